/-! the other orders -/
section TRY
variable {D : va_G} {dA : Nat → ClassId} {A B : Nat → Prop} {f : Nat → Int32} {H : Heap} {M : Nat} {ad0 : Nat}
variable {st jn al : Nat} {mc : Int32} {ae sl sa : Nat} {h : Nat → Option Nat} {se s0 b0 w0 : Nat} {sk0 : Int32} {W0 s1 b1 w1 : Nat} {sk1 : Int32} {W1 xq : Nat} {xe : va_E} {g : Nat → Option Nat}
theorem pos1 {x : Int32} (h : ¬ x ≤ 0) : nI 1 ≤ x ∧ 0 < x := by
  have h1 := Int32.not_le.1 h
  have h2 := Int32.lt_iff_toInt_lt.1 h1
  refine ⟨Int32.le_iff_toInt_le.2 ?_, h1⟩
  have e1 : (nI 1).toInt = 1 := by decide
  have e0 : (0 : Int32).toInt = 0 := by decide
  omega
theorem toN {x : Int32} {N : Nat} (h1 : nI 1 ≤ x) (h2 : x ≤ nI N) (hN : N < 2 ^ 31) : 1 ≤ x.toNatClampNeg ∧ x.toNatClampNeg ≤ N ∧ x = nI x.toNatClampNeg := by
  obtain ⟨j, a1, a2, rfl⟩ := zr_1 ⟨h1, h2⟩ hN
  rw [nI_clamp (by omega)]; exact ⟨a1, a2, rfl⟩
theorem gapB_set {F : Nat → Int32} {b w r : Nat} (hg : gapB f b w) (h1 : 1 ≤ r) (hr : F (17 + 100 * b + r) = nI 1) (ho : ∀ i, 1 ≤ i → i ≤ 100 → i ≠ r → F (17 + 100 * b + i) = f (17 + 100 * b + i)) : gapB F b (w ||| 2 ^ r) := by
  refine ⟨?_, fun i a1 a2 => ?_⟩
  · rw [Nat.testBit_or, hg.1, Nat.testBit_two_pow]; simp; omega
  · rw [Nat.testBit_or, Nat.testBit_two_pow]
    by_cases e : r = i
    · subst e
      simp [gpf, hr]
    · have : (w.testBit i || decide (r = i)) = w.testBit i := by simp [e]
      rw [this, hg.2 i a1 a2]
      show f _ = nI 1 ↔ F _ = nI 1
      rw [ho i a1 a2 (Ne.symm e)]
theorem gapB_zero {F : Nat → Int32} {b : Nat} (h : ∀ r, 1 ≤ r → r ≤ 100 → F (17 + 100 * b + r) = 0) : gapB F b 0 := by
  refine ⟨Nat.zero_testBit 0, fun r h1 h2 => ⟨fun q => ?_, fun q => ?_⟩⟩
  · rw [Nat.zero_testBit] at q; exact absurd q (by decide)
  · have q' : F (17 + 100 * b + r) = nI 1 := q
    rw [h r h1 h2] at q'; exact absurd q' (by decide)
theorem gapB_cut {F : Nat → Int32} {b w p : Nat} (hg : gapB f b w) (h : ∀ r, 1 ≤ r → r ≤ 100 → F (17 + 100 * b + r) = if r ≤ p then f (17 + 100 * b + r) else 0) : gapB F b (w % 2 ^ (p + 1)) := by
  refine ⟨?_, fun r h1 h2 => ?_⟩
  · rw [Nat.testBit_mod_two_pow, hg.1, Bool.and_false]
  · rw [Nat.testBit_mod_two_pow]
    show _ ↔ F (17 + 100 * b + r) = nI 1
    rw [h r h1 h2]
    by_cases c : r ≤ p
    · rw [if_pos c, decide_eq_true (show r < p + 1 by omega), Bool.true_and]; exact hg.2 r h1 h2
    · rw [if_neg c, decide_eq_false (show ¬ r < p + 1 by omega), Bool.false_and]
      exact ⟨fun q => absurd q (by decide), fun q => absurd q (by decide)⟩
theorem tr_lose {b r V0 V1 : Nat} (hB : InvB f M) (hb : b < 2) (hr1 : 1 ≤ r) (hr2 : r ≤ 100) (hV0 : V0 = if b = 0 then W0 ||| 2 ^ r else W0) (hV1 : V1 = if b = 1 then W1 ||| 2 ^ r else W1) (hP : va_P D vwCl [(st, .inr (1, [.ref jn, .ref sl, .ref sa, .ref se, .int (f 1), .int (f 2), .int (f 3), .int (f 4), .int (f 5 + nI 1), .int (f 6)])), (jn, .inr (2, [.ref al])), (al, .inr (9, [.int mc, .ref ae, .int (nI (rN f))])), (sl, .inl (dA 0, 3, .inl (slF f))), (sa, .inl (dA 4, 2, .inr (.inr (.inr (.inr h))))), (se, .inl (dA 0, 2, .inl (seF f))), (s0, .inr (3, [.int (nI (rcN f 0)), .int (nI (apN f 0)), .ref b0, .int (nI (acN f 0))])), (b0, .inr (10, [.ref w0, .int (nI (uOf V0)), .int sk0])), (w0, .inl (dA 1, 2, .inr (.inl (lwd V0)))), (s1, .inr (3, [.int (nI (rcN f 1)), .int (nI (apN f 1)), .ref b1, .int (nI (acN f 1))])), (b1, .inr (10, [.ref w1, .int (nI (uOf V1)), .int sk1])), (w1, .inl (dA 1, 2, .inr (.inl (lwd V1)))), (xq, xe)] H) (hL : LogT dA ad0 ae (rN f) g xq xe) (hN : NtA D B f g (rN f) H) (h0 : W0 < 2 ^ 101) (h1 : W1 < 2 ^ 101) (g0 : gapB f 0 W0) (g1 : gapB f 1 W1) :
    TrO D dA B ad0 (loseF f b r) st jn al mc ae sl sa h se s0 b0 w0 sk0 V0 s1 b1 w1 sk1 V1 xq xe g H := by
  have he : ∀ k, k ≠ 5 → k ≠ 17 + 100 * b + r → loseF f b r k = f k := fun k a c => by show upd _ _ _ _ = _; rw [upd_n a, upd_n c]
  have e5 : loseF f b r 5 = f 5 + nI 1 := upd_s
  have ej : loseF f b r (17 + 100 * b + r) = nI 1 := by show upd _ _ _ _ = _; rw [upd_n (by omega), upd_s]
  generalize loseF f b r = F at *
  have er : rN F = rN f := rN_c (he 0 (by omega) (by omega))
  have hp : 2 ^ r < 2 ^ 101 := Nat.pow_lt_pow_right (by decide) (by omega)
  have q0 : V0 < 2 ^ 101 := by rw [hV0]; split; exact Nat.or_lt_two_pow h0 hp; exact h0
  have q1 : V1 < 2 ^ 101 := by rw [hV1]; split; exact Nat.or_lt_two_pow h1 hp; exact h1
  refine ⟨tr_to hP (he 1 (by omega) (by omega)) (he 2 (by omega) (by omega)) (he 3 (by omega) (by omega)) (he 4 (by omega) (by omega)) e5 (he 6 (by omega) (by omega)) er (rcN_c (he _ (by omega) (by omega))) (apN_c (he _ (by omega) (by omega))) (acN_c (he _ (by omega) (by omega))) (rcN_c (he _ (by omega) (by omega))) (apN_c (he _ (by omega) (by omega))) (acN_c (he _ (by omega) (by omega))) (fun i hi => (slF_eq (he _ (by omega) (by omega))).symm) (fun i hi => (he _ (by omega) (by omega)).symm), by rw [er]; exact hL, by rw [er]; exact hN.congr (fun r h1 _ w _ => he _ (by omega) (by omega)), q0, q1, ?_, ?_⟩
  · rw [hV0]
    by_cases e : b = 0
    · subst e; rw [if_pos rfl]; exact gapB_set g0 hr1 ej (fun i a1 a2 a3 => he _ (by omega) (by omega))
    · rw [if_neg e]; exact gapB_c g0 (fun i a1 a2 => he _ (by omega) (by omega))
  · rw [hV1]
    by_cases e : b = 1
    · subst e; rw [if_pos rfl]; exact gapB_set g1 hr1 ej (fun i a1 a2 a3 => he _ (by omega) (by omega))
    · rw [if_neg e]; exact gapB_c g1 (fun i a1 a2 => he _ (by omega) (by omega))
theorem tr_resend {b V0 V1 : Nat} (hB : InvB f M) (hb : b < 2) (hV0 : V0 = if b = 0 then 0 else W0) (hV1 : V1 = if b = 1 then 0 else W1) (hP : va_P D vwCl [(st, .inr (1, [.ref jn, .ref sl, .ref sa, .ref se, .int (f 1), .int (f 2), .int (f 3), .int (f 4), .int (f 5), .int (f 6)])), (jn, .inr (2, [.ref al])), (al, .inr (9, [.int mc, .ref ae, .int (nI (rN f))])), (sl, .inl (dA 0, 3, .inl (slF f))), (sa, .inl (dA 4, 2, .inr (.inr (.inr (.inr h))))), (se, .inl (dA 0, 2, .inl (seF f))), (s0, .inr (3, [.int (nI (rcN f 0)), .int (nI (apN f 0)), .ref b0, .int (nI (acN f 0))])), (b0, .inr (10, [.ref w0, .int (nI (uOf V0)), .int sk0])), (w0, .inl (dA 1, 2, .inr (.inl (lwd V0)))), (s1, .inr (3, [.int (nI (rcN f 1)), .int (nI (apN f 1)), .ref b1, .int (nI (acN f 1))])), (b1, .inr (10, [.ref w1, .int (nI (uOf V1)), .int sk1])), (w1, .inl (dA 1, 2, .inr (.inl (lwd V1)))), (xq, xe)] H) (hL : LogT dA ad0 ae (rN f) g xq xe) (hN : NtA D B f g (rN f) H) (h0 : W0 < 2 ^ 101) (h1 : W1 < 2 ^ 101) (g0 : gapB f 0 W0) (g1 : gapB f 1 W1) :
    TrO D dA B ad0 (fillG f b 0) st jn al mc ae sl sa h se s0 b0 w0 sk0 V0 s1 b1 w1 sk1 V1 xq xe g H := by
  have he : ∀ k, k < 18 ∨ 218 ≤ k → fillG f b 0 k = f k := fun k a => a.elim fillG_lo (fillG_hi hb)
  have hz : ∀ r, 1 ≤ r → r ≤ 100 → fillG f b 0 (17 + 100 * b + r) = 0 := fun r a1 a2 => by simp only [fillG]; rw [if_pos (by omega)]
  have ho : ∀ c r, c < 2 → c ≠ b → 1 ≤ r → r ≤ 100 → fillG f b 0 (17 + 100 * c + r) = f (17 + 100 * c + r) := fun c r a0 a1 a2 a3 => by simp only [fillG]; rw [if_neg (by omega)]
  generalize fillG f b 0 = F at *
  have er : rN F = rN f := rN_c (he 0 (by omega))
  have q0 : V0 < 2 ^ 101 := by rw [hV0]; split; exact Nat.two_pow_pos _; exact h0
  have q1 : V1 < 2 ^ 101 := by rw [hV1]; split; exact Nat.two_pow_pos _; exact h1
  refine ⟨tr_to hP (he 1 (by omega)) (he 2 (by omega)) (he 3 (by omega)) (he 4 (by omega)) (he 5 (by omega)) (he 6 (by omega)) er (rcN_c (he _ (by omega))) (apN_c (he _ (by omega))) (acN_c (he _ (by omega))) (rcN_c (he _ (by omega))) (apN_c (he _ (by omega))) (acN_c (he _ (by omega))) (fun i hi => (slF_eq (he _ (by omega))).symm) (fun i hi => (he _ (by omega)).symm), by rw [er]; exact hL, by rw [er]; exact hN.congr (fun r h1 _ w _ => he _ (by omega)), q0, q1, ?_, ?_⟩
  · rw [hV0]
    by_cases e : b = 0
    · subst e; rw [if_pos rfl]; exact gapB_zero hz
    · rw [if_neg e]; exact gapB_c g0 (fun i a1 a2 => ho 0 i (by omega) (Ne.symm e) a1 a2)
  · rw [hV1]
    by_cases e : b = 1
    · subst e; rw [if_pos rfl]; exact gapB_zero hz
    · rw [if_neg e]; exact gapB_c g1 (fun i a1 a2 => ho 1 i (by omega) (Ne.symm e) a1 a2)
theorem proF_gb {b r : Nat} (hb : b < 2) (h1 : 1 ≤ r) (h2 : r ≤ 100) : proF f b (17 + 100 * b + r) = 0 := by
  show proC _ _ _ _ = _
  rw [proC_k (by omega) (by omega)]
  show fillG _ _ _ _ = _
  simp only [fillG]
  rw [if_neg (by omega), upd_n (by omega)]
  show laysF _ _ _ _ _ = _
  simp only [laysF, fillG]
  rw [if_pos (by omega)]
theorem proF_go {b o r : Nat} (hb : b < 2) (ho : o = 1 - b) (h1 : 1 ≤ r) (h2 : r ≤ 100) : proF f b (17 + 100 * o + r) = if r ≤ apN f b then f (17 + 100 * o + r) else 0 := by
  subst ho
  show proC _ _ _ _ = _
  rw [proC_k (by omega) (by omega)]
  show fillG _ _ _ _ = _
  simp only [fillG]
  by_cases c : r ≤ apN f b
  · rw [if_pos c, if_neg (by omega), upd_n (by omega)]
    show laysF _ _ _ _ _ = _
    simp only [laysF, fillG]
    rw [if_neg (by omega), upd_n (by omega), upd_n (by omega), upd_n (by omega), upd_n (by omega), upd_n (by omega), upd_n (by omega), upd_n (by omega), upd_n (by omega), upd_n (by omega)]
  · rw [if_neg c, if_pos (by omega)]
theorem min_c {a b : Nat} : (if a < b then a else b) = (if b ≤ a then b else a) := by split <;> split <;> omega
theorem lose_f {b : Nat} {w : Nat} {i : Int32} (hB : InvB f M) (hb : b < 2) (h1 : nI 1 ≤ i) (hg : gapB f b w) (hx : ¬ nI (acN f b) = 0 ∨ nI (rcN f b) < i ∨ i ≤ nI (apN f b) ∨ w.testBit i.toNatClampNeg = true) : oLose f (nI b) i = (false, cNP, f) := by
  obtain ⟨a1, a2, a3, a4⟩ := InvA_ap hB.a hb
  have hn := hB.a.2.1
  unfold oLose
  rw [if_pos (zr_in (show b ≤ 1 by omega) (by omega)), if_pos h1, nI_clamp (show b < 2 ^ 31 by omega)]
  by_cases c1 : sbf f b 2 = nI 1
  · rw [if_pos c1]; rfl
  · rw [if_neg c1, a1, a2]
    by_cases c2 : i ≤ nI (rcN f b)
    · rw [if_pos c2]
      by_cases c3 : i ≤ nI (apN f b)
      · rw [if_pos c3]; rfl
      · rw [if_neg c3]
        obtain ⟨t1, t2, t3⟩ := toN h1 c2 (by omega)
        have hgp : gpf f b i.toNatClampNeg := by
          rcases hx with h | h | h | h
          · exact absurd (ac_1 hB hb h) c1
          · exact absurd c2 (Int32.not_le.2 h)
          · exact absurd h c3
          · exact (hg.2 _ t1 (by omega)).1 h
        rw [if_pos hgp]; rfl
    · rw [if_neg c2]; rfl
theorem lose_t {b : Nat} {w : Nat} {i : Int32} (hB : InvB f M) (hb : b < 2) (h1 : nI 1 ≤ i) (hg : gapB f b w) (q1 : nI (acN f b) = 0) (q2 : i ≤ nI (rcN f b)) (q3 : ¬ i ≤ nI (apN f b)) (q4 : ¬ w.testBit i.toNatClampNeg = true) : oLose f (nI b) i = (true, nI (pcN (w ||| 2 ^ i.toNatClampNeg)), loseF f b i.toNatClampNeg) := by
  obtain ⟨a1, a2, a3, a4⟩ := InvA_ap hB.a hb
  have hn := hB.a.2.1
  obtain ⟨t1, t2, t3⟩ := toN h1 q2 (by omega)
  have hgs : gapB (loseF f b i.toNatClampNeg) b (w ||| 2 ^ i.toNatClampNeg) := gapB_set hg t1 (by show upd _ _ _ _ = _; rw [upd_n (by omega), upd_s]) (fun k c1 c2 c3 => by show upd _ _ _ _ = _; rw [upd_n (by omega), upd_n (by omega)])
  unfold oLose
  rw [if_pos (zr_in (show b ≤ 1 by omega) (by omega)), if_pos h1, nI_clamp (show b < 2 ^ 31 by omega), if_neg (ac_0 hB hb q1), a1, a2, if_pos q2, if_neg q3, if_neg (fun z => q4 ((hg.2 _ t1 (by omega)).2 z)), pcN_gaps hgs]
theorem resend_t {b w : Nat} (hB : InvB f M) (hb : b < 2) (hg : gapB f b w) (q1 : nI (acN f b) = 0) : oResend f (nI b) = (true, nI (pcN w), fillG f b 0) := by
  unfold oResend
  rw [if_pos (zr_in (show b ≤ 1 by omega) (by omega)), nI_clamp (show b < 2 ^ 31 by omega), if_neg (ac_0 hB hb q1), pcN_gaps hg]
theorem resend_f {b : Nat} (hB : InvB f M) (hb : b < 2) (q1 : ¬ nI (acN f b) = 0) : oResend f (nI b) = (false, cNP, f) := by
  unfold oResend
  rw [if_pos (zr_in (show b ≤ 1 by omega) (by omega)), nI_clamp (show b < 2 ^ 31 by omega), if_pos (ac_1 hB hb q1)]
  rfl
theorem pro_t {b : Nat} (hB : InvB f M) (hb : b < 2) (q1 : nI (acN f b) = 0) : oPromote f (nI b) = (true, nI (lost f b), proF f b) := by
  unfold oPromote
  rw [if_pos (zr_in (show b ≤ 1 by omega) (by omega)), nI_clamp (show b < 2 ^ 31 by omega), if_neg (ac_0 hB hb q1)]
theorem pro_f {b : Nat} (hB : InvB f M) (hb : b < 2) (q1 : ¬ nI (acN f b) = 0) : oPromote f (nI b) = (false, cNP, f) := by
  unfold oPromote
  rw [if_pos (zr_in (show b ≤ 1 by omega) (by omega)), nI_clamp (show b < 2 ^ 31 by omega), if_pos (ac_1 hB hb q1)]
  rfl
theorem tr_pro0 (hB : InvB f M) (hP : va_P D vwCl [(st, .inr (1, [.ref jn, .ref sl, .ref sa, .ref se, .int (f 1), .int (f 2 + nI 1), .int (f 3), .int (f 4 + nI (lost f 0)), .int (f 5), .int (f 6)])), (jn, .inr (2, [.ref al])), (al, .inr (9, [.int mc, .ref ae, .int (nI (apN f 0))])), (sl, .inl (dA 0, 3, .inl (upd (upd (upd (slF f) 0 (-1)) 1 (-1)) 2 (-1)))), (sa, .inl (dA 4, 2, .inr (.inr (.inr (.inr h))))), (se, .inl (dA 0, 2, .inl (seF f))), (s0, .inr (3, [.int (nI (apN f 0)), .int (nI (apN f 0)), .ref b0, .int (nI (if apN f 0 < rN f then 1 else 0))])), (b0, .inr (10, [.ref w0, .int (nI (uOf 0)), .int sk0])), (w0, .inl (dA 1, 2, .inr (.inl (lwd 0)))), (s1, .inr (3, [.int (nI (if apN f 0 < rcN f 1 then apN f 0 else rcN f 1)), .int (nI (if apN f 0 < apN f 1 then apN f 0 else apN f 1)), .ref b1, .int (nI (if apN f 0 < apN f 1 then 1 else acN f 1))])), (b1, .inr (10, [.ref w1, .int (nI (uOf (W1 % 2 ^ (apN f 0 + 1)))), .int sk1])), (w1, .inl (dA 1, 2, .inr (.inl (lwd (W1 % 2 ^ (apN f 0 + 1)))))), (xq, xe)] H) (hL : LogT dA ad0 ae (apN f 0) g xq xe) (hN : NtA D B f g (apN f 0) H) (h1 : W1 < 2 ^ 101) (g1 : gapB f 1 W1) :
    TrO D dA B ad0 (proF f 0) st jn al mc ae sl sa h se s0 b0 w0 sk0 0 s1 b1 w1 sk1 (W1 % 2 ^ (apN f 0 + 1)) xq xe g H := by
  obtain ⟨a1, a2, a3, a4⟩ := InvA_ap hB.a (b := 0) (by omega)
  obtain ⟨c1, c2, c3, c4⟩ := InvA_ap hB.a (b := 1) (by omega)
  obtain ⟨k1, k2⟩ := hB.ac (b := 1) (by omega)
  have hn := hB.a.2.1
  have he : ∀ k, k < 12 ∨ 218 ≤ k → (k ≠ 0 ∧ k ≠ 2 ∧ k ≠ 4 ∧ k ≠ 9 ∧ k ≠ 10 ∧ k ≠ 11) → proF f 0 k = f k := fun k x y => proF_k (by omega) x y
  obtain ⟨p0, p1, p2, p4⟩ := proF_0 (f := f) (b := 0) (by omega)
  obtain ⟨q0, q1, q2⟩ := proF_b (f := f) (b := 0) (by omega)
  obtain ⟨r0, r1, r2⟩ := proF_o (f := f) (b := 0) (o := 1) hB.a (by omega) rfl
  have z0 : gapB (proF f 0) 0 0 := gapB_zero (fun r x y => proF_gb (by omega) x y)
  have z1 : gapB (proF f 0) 1 (W1 % 2 ^ (apN f 0 + 1)) := gapB_cut g1 (fun r x y => proF_go (by omega) rfl x y)
  generalize proF f 0 = F at *
  have er : rN F = apN f 0 := rN_v p0 (by omega)
  rw [← min_c] at r0 r1
  have zb0 : rcN F 0 = apN f 0 := rcN_v q0 (by omega)
  have zb1 : apN F 0 = apN f 0 := apN_v q1 (by omega)
  have zb2 : acN F 0 = (if apN f 0 < rN f then 1 else 0) := acN_v q2 (by split <;> omega)
  have zo0 : rcN F 1 = (if apN f 0 < rcN f 1 then apN f 0 else rcN f 1) := rcN_v r0 (by split <;> omega)
  have zo1 : apN F 1 = (if apN f 0 < apN f 1 then apN f 0 else apN f 1) := apN_v r1 (by split <;> omega)
  have zo2 : acN F 1 = (if apN f 0 < apN f 1 then 1 else acN f 1) := by
    by_cases c : apN f 0 < apN f 1
    · rw [if_pos c]; rw [if_neg (by omega)] at r2; exact acN_v r2 (by omega)
    · rw [if_neg c]; rw [if_pos (by omega)] at r2; exact acN_c r2
  refine ⟨tr_to hP (he 1 (by omega) (by omega)) p2 (he 3 (by omega) (by omega)) p4 (he 5 (by omega) (by omega)) (he 6 (by omega) (by omega)) er zb0 zb1 zb2 zo0 zo1 zo2 (fun i hi => ?_) (fun i hi => (he (7 + i) (by omega) (by omega)).symm), by rw [er]; exact hL, by rw [er]; exact hN.congr (fun r h1 _ w _ => he _ (by omega) (by omega)), Nat.two_pow_pos _, Nat.lt_of_le_of_lt (Nat.mod_le _ _) h1, z0, z1⟩
  rw [slF_z (p1 i hi)]
  rcases (show i = 0 ∨ i = 1 ∨ i = 2 by omega) with rfl | rfl | rfl
  · rw [upd_n (by omega), upd_n (by omega)]; exact upd_s
  · rw [upd_n (by omega)]; exact upd_s
  · exact upd_s
theorem tr_pro1 (hB : InvB f M) (hP : va_P D vwCl [(st, .inr (1, [.ref jn, .ref sl, .ref sa, .ref se, .int (f 1), .int (f 2 + nI 1), .int (f 3), .int (f 4 + nI (lost f 1)), .int (f 5), .int (f 6)])), (jn, .inr (2, [.ref al])), (al, .inr (9, [.int mc, .ref ae, .int (nI (apN f 1))])), (sl, .inl (dA 0, 3, .inl (upd (upd (upd (slF f) 0 (-1)) 1 (-1)) 2 (-1)))), (sa, .inl (dA 4, 2, .inr (.inr (.inr (.inr h))))), (se, .inl (dA 0, 2, .inl (seF f))), (s0, .inr (3, [.int (nI (if apN f 1 < rcN f 0 then apN f 1 else rcN f 0)), .int (nI (if apN f 1 < apN f 0 then apN f 1 else apN f 0)), .ref b0, .int (nI (if apN f 1 < apN f 0 then 1 else acN f 0))])), (b0, .inr (10, [.ref w0, .int (nI (uOf (W0 % 2 ^ (apN f 1 + 1)))), .int sk0])), (w0, .inl (dA 1, 2, .inr (.inl (lwd (W0 % 2 ^ (apN f 1 + 1)))))), (s1, .inr (3, [.int (nI (apN f 1)), .int (nI (apN f 1)), .ref b1, .int (nI (if apN f 1 < rN f then 1 else 0))])), (b1, .inr (10, [.ref w1, .int (nI (uOf 0)), .int sk1])), (w1, .inl (dA 1, 2, .inr (.inl (lwd 0)))), (xq, xe)] H) (hL : LogT dA ad0 ae (apN f 1) g xq xe) (hN : NtA D B f g (apN f 1) H) (h1 : W0 < 2 ^ 101) (g1 : gapB f 0 W0) :
    TrO D dA B ad0 (proF f 1) st jn al mc ae sl sa h se s0 b0 w0 sk0 (W0 % 2 ^ (apN f 1 + 1)) s1 b1 w1 sk1 0 xq xe g H := by
  obtain ⟨a1, a2, a3, a4⟩ := InvA_ap hB.a (b := 1) (by omega)
  obtain ⟨c1, c2, c3, c4⟩ := InvA_ap hB.a (b := 0) (by omega)
  obtain ⟨k1, k2⟩ := hB.ac (b := 0) (by omega)
  have hn := hB.a.2.1
  have he : ∀ k, k < 12 ∨ 218 ≤ k → (k ≠ 0 ∧ k ≠ 2 ∧ k ≠ 4 ∧ k ≠ 9 ∧ k ≠ 10 ∧ k ≠ 11) → proF f 1 k = f k := fun k x y => proF_k (by omega) x y
  obtain ⟨p0, p1, p2, p4⟩ := proF_0 (f := f) (b := 1) (by omega)
  obtain ⟨q0, q1, q2⟩ := proF_b (f := f) (b := 1) (by omega)
  obtain ⟨r0, r1, r2⟩ := proF_o (f := f) (b := 1) (o := 0) hB.a (by omega) rfl
  have z0 : gapB (proF f 1) 1 0 := gapB_zero (fun r x y => proF_gb (by omega) x y)
  have z1 : gapB (proF f 1) 0 (W0 % 2 ^ (apN f 1 + 1)) := gapB_cut g1 (fun r x y => proF_go (by omega) rfl x y)
  generalize proF f 1 = F at *
  have er : rN F = apN f 1 := rN_v p0 (by omega)
  rw [← min_c] at r0 r1
  have zb0 : rcN F 1 = apN f 1 := rcN_v q0 (by omega)
  have zb1 : apN F 1 = apN f 1 := apN_v q1 (by omega)
  have zb2 : acN F 1 = (if apN f 1 < rN f then 1 else 0) := acN_v q2 (by split <;> omega)
  have zo0 : rcN F 0 = (if apN f 1 < rcN f 0 then apN f 1 else rcN f 0) := rcN_v r0 (by split <;> omega)
  have zo1 : apN F 0 = (if apN f 1 < apN f 0 then apN f 1 else apN f 0) := apN_v r1 (by split <;> omega)
  have zo2 : acN F 0 = (if apN f 1 < apN f 0 then 1 else acN f 0) := by
    by_cases c : apN f 1 < apN f 0
    · rw [if_pos c]; rw [if_neg (by omega)] at r2; exact acN_v r2 (by omega)
    · rw [if_neg c]; rw [if_pos (by omega)] at r2; exact acN_c r2
  refine ⟨tr_to hP (he 1 (by omega) (by omega)) p2 (he 3 (by omega) (by omega)) p4 (he 5 (by omega) (by omega)) (he 6 (by omega) (by omega)) er zo0 zo1 zo2 zb0 zb1 zb2 (fun i hi => ?_) (fun i hi => (he (7 + i) (by omega) (by omega)).symm), by rw [er]; exact hL, by rw [er]; exact hN.congr (fun r h1 _ w _ => he _ (by omega) (by omega)), Nat.lt_of_le_of_lt (Nat.mod_le _ _) h1, Nat.two_pow_pos _, z1, z0⟩
  rw [slF_z (p1 i hi)]
  rcases (show i = 0 ∨ i = 1 ∨ i = 2 by omega) with rfl | rfl | rfl
  · rw [upd_n (by omega), upd_n (by omega)]; exact upd_s
  · rw [upd_n (by omega)]; exact upd_s
  · exact upd_s

end TRY
