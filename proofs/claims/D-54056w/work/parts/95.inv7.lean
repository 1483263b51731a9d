/-! a store that is changed, told by the reference's array -/
abbrev trW (dA : Nat → ClassId) (f : Nat → Int32) (st jn al : Nat) (mc : Int32) (ae sl sa : Nat) (h : Nat → Option Nat) (se s0 b0 w0 : Nat) (sk0 : Int32) (W0 s1 b1 w1 : Nat) (sk1 : Int32) (W1 xq : Nat) (xe : va_E) : va_W := [(st, .inr (1, [.ref jn, .ref sl, .ref sa, .ref se, .int (f 1), .int (f 2), .int (f 3), .int (f 4), .int (f 5), .int (f 6)])), (jn, .inr (2, [.ref al])), (al, .inr (9, [.int mc, .ref ae, .int (nI (rN f))])), (sl, .inl (dA 0, 3, .inl (slF f))), (sa, .inl (dA 4, 2, .inr (.inr (.inr (.inr h))))), (se, .inl (dA 0, 2, .inl (seF f))), (s0, .inr (3, [.int (nI (rcN f 0)), .int (nI (apN f 0)), .ref b0, .int (nI (acN f 0))])), (b0, .inr (10, [.ref w0, .int (nI (uOf W0)), .int sk0])), (w0, .inl (dA 1, 2, .inr (.inl (lwd W0)))), (s1, .inr (3, [.int (nI (rcN f 1)), .int (nI (apN f 1)), .ref b1, .int (nI (acN f 1))])), (b1, .inr (10, [.ref w1, .int (nI (uOf W1)), .int sk1])), (w1, .inl (dA 1, 2, .inr (.inl (lwd W1)))), (xq, xe)]
section TRS
variable {D : va_G} {dA : Nat → ClassId} {A B : Nat → Prop} {f F : Nat → Int32} {H : Heap} {M : Nat}
theorem tr_to {x1 x2 x3 x4 x5 x6 : Int32} {n rc0 ap0 ac0 rc1 ap1 ac1 : Nat} {gs ge : Nat → Int32} {st jn al : Nat} {mc : Int32} {ae sl sa : Nat} {h : Nat → Option Nat} {se s0 b0 w0 : Nat} {sk0 : Int32} {W0 s1 b1 w1 : Nat} {sk1 : Int32} {W1 xq : Nat} {xe : va_E}
    (hP : va_P D vwCl [(st, .inr (1, [.ref jn, .ref sl, .ref sa, .ref se, .int x1, .int x2, .int x3, .int x4, .int x5, .int x6])), (jn, .inr (2, [.ref al])), (al, .inr (9, [.int mc, .ref ae, .int (nI (n))])), (sl, .inl (dA 0, 3, .inl gs)), (sa, .inl (dA 4, 2, .inr (.inr (.inr (.inr h))))), (se, .inl (dA 0, 2, .inl ge)), (s0, .inr (3, [.int (nI (rc0)), .int (nI (ap0)), .ref b0, .int (nI (ac0))])), (b0, .inr (10, [.ref w0, .int (nI (uOf W0)), .int sk0])), (w0, .inl (dA 1, 2, .inr (.inl (lwd W0)))), (s1, .inr (3, [.int (nI (rc1)), .int (nI (ap1)), .ref b1, .int (nI (ac1))])), (b1, .inr (10, [.ref w1, .int (nI (uOf W1)), .int sk1])), (w1, .inl (dA 1, 2, .inr (.inl (lwd W1)))), (xq, xe)] H) (h1 : F 1 = x1) (h2 : F 2 = x2) (h3 : F 3 = x3) (h4 : F 4 = x4) (h5 : F 5 = x5) (h6 : F 6 = x6) (hn : rN F = n) (hr0 : rcN F 0 = rc0) (ha0 : apN F 0 = ap0) (hc0 : acN F 0 = ac0) (hr1 : rcN F 1 = rc1) (ha1 : apN F 1 = ap1) (hc1 : acN F 1 = ac1) (hs : ∀ j, j < 3 → gs j = slF F j) (he : ∀ j, j < 2 → ge j = seF F j) :
    va_P D vwCl (trW dA F st jn al mc ae sl sa h se s0 b0 w0 sk0 W0 s1 b1 w1 sk1 W1 xq xe) H := by
  subst h1 h2 h3 h4 h5 h6 hn hr0 ha0 hc0 hr1 ha1 hc1
  exact (hP.arr 3 rfl (f' := slF F) hs).arr 5 rfl (f' := seF F) he
theorem rN_c (h : F 0 = f 0) : rN F = rN f := by unfold rN; rw [h]
theorem rcN_c {b : Nat} (h : sbf F b 0 = sbf f b 0) : rcN F b = rcN f b := by unfold rcN; rw [h]
theorem apN_c {b : Nat} (h : sbf F b 1 = sbf f b 1) : apN F b = apN f b := by unfold apN; rw [h]
theorem acN_c {b : Nat} (h : sbf F b 2 = sbf f b 2) : acN F b = acN f b := by unfold acN; rw [h]
theorem rN_v {n : Nat} (h : F 0 = nI n) (hn : n < 2 ^ 31) : rN F = n := by unfold rN; rw [h, nI_clamp hn]
theorem rcN_v {b n : Nat} (h : sbf F b 0 = nI n) (hn : n < 2 ^ 31) : rcN F b = n := by unfold rcN; rw [h, nI_clamp hn]
theorem apN_v {b n : Nat} (h : sbf F b 1 = nI n) (hn : n < 2 ^ 31) : apN F b = n := by unfold apN; rw [h, nI_clamp hn]
theorem acN_v {b n : Nat} (h : sbf F b 2 = nI n) (hn : n < 2 ^ 31) : acN F b = n := by unfold acN; rw [h, nI_clamp hn]
theorem gapB_c {b w : Nat} (h : gapB f b w) (he : ∀ r, 1 ≤ r → r ≤ 100 → F (17 + 100 * b + r) = f (17 + 100 * b + r)) : gapB F b w := by
  refine ⟨h.1, fun r h1 h2 => ?_⟩
  show _ ↔ F (17 + 100 * b + r) = nI 1
  rw [he r h1 h2]; exact h.2 r h1 h2
/-- the order o is done: told by its parts -/
theorem open_t {j : Nat} (h : InvB f M) (hj : j ≤ 2) (hs : slF f j = -1) : oOpen f (nI j) = (true, f 3 + nI 1, upd (upd f 3 (f 3 + nI 1)) (9 + j) (f 3 + nI 1)) := by
  have e := (slF_n h (by omega)).1 hs
  unfold oOpen
  rw [if_pos (zr_in hj (by omega)), nI_clamp (by omega), if_pos (by rw [e]; decide)]
theorem open_f {j : Nat} (h : InvB f M) (hj : j ≤ 2) (hs : ¬ slF f j = -1) : oOpen f (nI j) = (false, cNP, f) := by
  have e : ¬ f (9 + j) = 0 := fun q => hs ((slF_n h (by omega)).2 q)
  obtain ⟨t, h1, h2⟩ := h.slot j (by omega)
  have tl := h.tM
  have ml := h.lim
  have ht : 0 < t := by
    rcases Nat.eq_zero_or_pos t with z | z
    · subst z; exact absurd h2 e
    · exact z
  unfold oOpen
  rw [if_pos (zr_in hj (by omega)), nI_clamp (by omega), if_neg (by rw [h2]; exact nI_nle ht (by omega))]
  rfl
theorem bar_0 {j : Nat} (h : InvB f M) (hj : j ≤ 2) (h1 : ¬ slF f j = -1) (h2 : ¬ rN f = 100) : aBar f (nI j) = 0 := by
  have e : ¬ f (9 + j) = 0 := fun q => h1 ((slF_n h (by omega)).2 q)
  unfold aBar
  rw [if_pos (zr_in hj (by omega)), nI_clamp (by omega), if_neg e, if_neg (fun q => h2 (nI_inj (by have := h.a.2.1; omega) (by omega) (h.a.1.symm.trans q)))]
theorem bar_n {j : Nat} (h : InvB f M) (hj : j ≤ 2) (h1 : slF f j = -1 ∨ rN f = 100) : aBar f (nI j) = (if slF f j = -1 then cNP else cLR) := by
  unfold aBar
  rw [if_pos (zr_in hj (by omega)), nI_clamp (by omega)]
  by_cases c : slF f j = -1
  · rw [if_pos c, if_pos ((slF_n h (by omega)).1 c)]
  · have e : ¬ f (9 + j) = 0 := fun q => c ((slF_n h (by omega)).2 q)
    rw [if_neg c, if_neg e, if_pos (by rw [h.a.1, h1.resolve_left c])]
theorem wr_t {j kind : Nat} {key v : Int32} (h : InvB f M) (hj : j ≤ 2) (h1 : ¬ slF f j = -1) (h2 : ¬ rN f = 100) : oWr f kind (nI j) key v = (true, nI (rN f + 1), wrF f kind j key v) := by
  unfold oWr
  rw [bar_0 h hj h1 h2, if_pos (by decide), nI_clamp (by omega)]
theorem wr_f {j kind : Nat} {key v : Int32} (h : InvB f M) (hj : j ≤ 2) (h1 : slF f j = -1 ∨ rN f = 100) : oWr f kind (nI j) key v = (false, (if slF f j = -1 then cNP else cLR), f) := by
  unfold oWr
  rw [bar_n h hj h1, if_neg (by split <;> decide)]
  rfl
theorem wr_i {kind : Nat} {sl key v : Int32} (h : ¬ isS sl) : oWr f kind sl key v = (false, cIA, f) := by
  unfold oWr aBar
  rw [if_neg h, if_neg (by decide)]
  rfl
theorem wrF_n {kind j k : Nat} {key v : Int32} (h1 : k ≠ 0) (h2 : k ≠ 9 + j) (h3 : k < 218 + 5 * rN f ∨ 223 + 5 * rN f ≤ k) : wrF f kind j key v k = f k := by
  simp only [wrF]; rw [upd_n (by omega), upd_n (by omega), upd_n (by omega), upd_n (by omega), upd_n (by omega), upd_n (by omega), upd_n (by omega)]
theorem wrF_0 {kind j : Nat} {key v : Int32} (hj : j < 3) : wrF f kind j key v 0 = nI (rN f + 1) := by
  simp only [wrF]; rw [upd_n (by omega), upd_n (by omega), upd_n (by omega), upd_n (by omega), upd_n (by omega), upd_n (by omega), upd_s]
theorem wrF_j {kind j : Nat} {key v : Int32} : wrF f kind j key v (9 + j) = if kind = 0 then f (9 + j) else 0 := by simp only [wrF]; rw [upd_s]
theorem wrF_r {kind j : Nat} {key v : Int32} (hj : j < 3) : rcf (wrF f kind j key v) (rN f + 1) 0 = nI kind ∧ rcf (wrF f kind j key v) (rN f + 1) 1 = f (9 + j) ∧ rcf (wrF f kind j key v) (rN f + 1) 2 = key ∧ rcf (wrF f kind j key v) (rN f + 1) 3 = v ∧ rcf (wrF f kind j key v) (rN f + 1) 4 = f 1 := by
  refine ⟨?_, ?_, ?_, ?_, ?_⟩
  · simp only [rcf, wrF]; rw [upd_n (by omega), upd_n (by omega), upd_n (by omega), upd_n (by omega), upd_n (by omega)]; exact upd_s
  · simp only [rcf, wrF]; rw [upd_n (by omega), upd_n (by omega), upd_n (by omega), upd_n (by omega)]; exact upd_s
  · simp only [rcf, wrF]; rw [upd_n (by omega), upd_n (by omega), upd_n (by omega)]; exact upd_s
  · simp only [rcf, wrF]; rw [upd_n (by omega), upd_n (by omega)]; exact upd_s
  · simp only [rcf, wrF]; rw [upd_n (by omega)]; exact upd_s
theorem wrF_c {kind j r w : Nat} {key v : Int32} (hj : j < 3) (h1 : 1 ≤ r) (h2 : r ≤ rN f) (hw : w < 5) : rcf (wrF f kind j key v) r w = rcf f r w := wrF_n (by omega) (by omega) (by omega)
theorem nt_put {j : Nat} {key v : Int32} (hj : j < 3) (h0 : ¬ f (9 + j) = 0) : [Value.int (nI 0), .int (slF f j), .int key, .int v, .int (f 1)] = ntE (wrF f 0 j key v) (rN f + 1) := by
  obtain ⟨a0, a1, a2, a3, a4⟩ := wrF_r (f := f) (kind := 0) (key := key) (v := v) hj
  unfold ntE nfF
  rw [a0, a1, a2, a3, a4, if_pos (show nI 0 = 0 from rfl), if_pos (show nI 0 = 0 from rfl), slF_v h0]
theorem nt_end {j kind : Nat} {key v : Int32} (hj : j < 3) (h0 : ¬ f (9 + j) = 0) (hk : kind = 1 ∨ kind = 2) : [Value.int (nI kind), .int (slF f j), .int (-1), .int (-1), .int (f 1)] = ntE (wrF f kind j key v) (rN f + 1) := by
  obtain ⟨a0, a1, a2, a3, a4⟩ := wrF_r (f := f) (kind := kind) (key := key) (v := v) hj
  have hz : ¬ nI kind = 0 := by rcases hk with rfl | rfl <;> decide
  unfold ntE nfF
  rw [a0, a1, a4, if_neg hz, if_neg hz, slF_v h0]
end TRS
