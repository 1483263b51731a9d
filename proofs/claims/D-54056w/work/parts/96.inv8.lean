/-! each order: the walked store is the reference's -/
theorem va_D.via {A : Nat → Prop} {ws ws' : va_W} (h : va_D A ws) (L : List Nat) (e0 : ws.map Prod.fst = L) (e : ws'.map Prod.fst = L) : va_D A ws' := h.same (e0.trans e.symm)
section TRX
variable {D : va_G} {dA : Nat → ClassId} {A B : Nat → Prop} {f : Nat → Int32} {H : Heap} {M : Nat} {ad0 : Nat}
variable {st jn al : Nat} {mc : Int32} {ae sl sa : Nat} {h : Nat → Option Nat} {se s0 b0 w0 : Nat} {sk0 : Int32} {W0 s1 b1 w1 : Nat} {sk1 : Int32} {W1 xq : Nat} {xe : va_E} {g : Nat → Option Nat}
theorem slF_eq {F : Nat → Int32} {j : Nat} (h : F (9 + j) = f (9 + j)) : slF F j = slF f j := by unfold slF; rw [h]
theorem slF_nz {F : Nat → Int32} {j : Nat} {v : Int32} (h : F (9 + j) = v) (hv : ¬ v = 0) : slF F j = v := by unfold slF; rw [h, if_neg hv]
theorem slF_z {F : Nat → Int32} {j : Nat} (h : F (9 + j) = 0) : slF F j = -1 := by unfold slF; rw [h, if_pos rfl]
/-- what an order leaves: the cells, the log, the bits -/
def TrO (D : va_G) (dA : Nat → ClassId) (B : Nat → Prop) (a0 : Nat) (F : Nat → Int32) (st jn al : Nat) (mc : Int32) (ae sl sa : Nat) (h : Nat → Option Nat) (se s0 b0 w0 : Nat) (sk0 : Int32) (W0 s1 b1 w1 : Nat) (sk1 : Int32) (W1 xq : Nat) (xe : va_E) (g : Nat → Option Nat) (H : Heap) : Prop :=
  va_P D vwCl (trW dA F st jn al mc ae sl sa h se s0 b0 w0 sk0 W0 s1 b1 w1 sk1 W1 xq xe) H ∧ LogT dA a0 ae (rN F) g xq xe ∧ NtA D B F g (rN F) H ∧ W0 < 2 ^ 101 ∧ W1 < 2 ^ 101 ∧ gapB F 0 W0 ∧ gapB F 1 W1
theorem tr_open {j : Nat} (hB : InvB f M) (hj : j ≤ 2) (hP : va_P D vwCl [(st, .inr (1, [.ref jn, .ref sl, .ref sa, .ref se, .int (f 1), .int (f 2), .int (f 3 + nI 1), .int (f 4), .int (f 5), .int (f 6)])), (jn, .inr (2, [.ref al])), (al, .inr (9, [.int mc, .ref ae, .int (nI (rN f))])), (sl, .inl (dA 0, 3, .inl (upd (slF f) j (f 3 + nI 1)))), (sa, .inl (dA 4, 2, .inr (.inr (.inr (.inr h))))), (se, .inl (dA 0, 2, .inl (seF f))), (s0, .inr (3, [.int (nI (rcN f 0)), .int (nI (apN f 0)), .ref b0, .int (nI (acN f 0))])), (b0, .inr (10, [.ref w0, .int (nI (uOf W0)), .int sk0])), (w0, .inl (dA 1, 2, .inr (.inl (lwd W0)))), (s1, .inr (3, [.int (nI (rcN f 1)), .int (nI (apN f 1)), .ref b1, .int (nI (acN f 1))])), (b1, .inr (10, [.ref w1, .int (nI (uOf W1)), .int sk1])), (w1, .inl (dA 1, 2, .inr (.inl (lwd W1)))), (xq, xe)] H) (hL : LogT dA ad0 ae (rN f) g xq xe) (hN : NtA D B f g (rN f) H) (h0 : W0 < 2 ^ 101) (h1 : W1 < 2 ^ 101) (g0 : gapB f 0 W0) (g1 : gapB f 1 W1) :
    TrO D dA B ad0 (upd (upd f 3 (f 3 + nI 1)) (9 + j) (f 3 + nI 1)) st jn al mc ae sl sa h se s0 b0 w0 sk0 W0 s1 b1 w1 sk1 W1 xq xe g H := by
  have he : ∀ k, k ≠ 3 → k ≠ 9 + j → upd (upd f 3 (f 3 + nI 1)) (9 + j) (f 3 + nI 1) k = f k := fun k h1 h2 => by rw [upd_n h2, upd_n h1]
  have e3 : upd (upd f 3 (f 3 + nI 1)) (9 + j) (f 3 + nI 1) 3 = f 3 + nI 1 := by rw [upd_n (by omega), upd_s]
  have ej : upd (upd f 3 (f 3 + nI 1)) (9 + j) (f 3 + nI 1) (9 + j) = f 3 + nI 1 := upd_s
  generalize upd (upd f 3 (f 3 + nI 1)) (9 + j) (f 3 + nI 1) = F at *
  have hv : ¬ f 3 + nI 1 = 0 := by
    have tl := hB.tM
    have ml := hB.lim
    rw [hB.t3, nI_add]
    exact fun q => by have := nI_inj (b := 0) (by omega) (by omega) q; omega
  have er : rN F = rN f := rN_c (he 0 (by omega) (by omega))
  refine ⟨tr_to hP (he 1 (by omega) (by omega)) (he 2 (by omega) (by omega)) e3 (he 4 (by omega) (by omega)) (he 5 (by omega) (by omega)) (he 6 (by omega) (by omega)) er (rcN_c (he _ (by omega) (by omega))) (apN_c (he _ (by omega) (by omega))) (acN_c (he _ (by omega) (by omega))) (rcN_c (he _ (by omega) (by omega))) (apN_c (he _ (by omega) (by omega))) (acN_c (he _ (by omega) (by omega))) (fun i hi => ?_) (fun i hi => (he _ (by omega) (by omega)).symm), by rw [er]; exact hL, by rw [er]; exact hN.congr (fun r h1 _ w _ => he _ (by omega) (by omega)), h0, h1, gapB_c g0 (fun r _ _ => he _ (by omega) (by omega)), gapB_c g1 (fun r _ _ => he _ (by omega) (by omega))⟩
  by_cases e : i = j
  · subst e; rw [upd_s, slF_nz ej hv]
  · rw [upd_n e, slF_eq (he _ (by omega) (by omega))]
theorem tr_wr {j kind : Nat} {key v : Int32} {mc9 : Int32} {ae9 xq9 : Nat} {xe9 : va_E} {g9 : Nat → Option Nat} {vs : List Value} {gs : Nat → Int32} (hB : InvB f M) (hj : j ≤ 2) (hf : ¬ slF f j = -1) (hP : va_P D vwCl [(st, .inr (1, [.ref jn, .ref sl, .ref sa, .ref se, .int (f 1), .int (f 2), .int (f 3), .int (f 4), .int (f 5), .int (f 6)])), (jn, .inr (2, [.ref al])), (al, .inr (9, [.int mc9, .ref ae9, .int (nI (rN f + 1))])), (sl, .inl (dA 0, 3, .inl gs)), (sa, .inl (dA 4, 2, .inr (.inr (.inr (.inr h))))), (se, .inl (dA 0, 2, .inl (seF f))), (s0, .inr (3, [.int (nI (rcN f 0)), .int (nI (apN f 0)), .ref b0, .int (nI (acN f 0))])), (b0, .inr (10, [.ref w0, .int (nI (uOf W0)), .int sk0])), (w0, .inl (dA 1, 2, .inr (.inl (lwd W0)))), (s1, .inr (3, [.int (nI (rcN f 1)), .int (nI (apN f 1)), .ref b1, .int (nI (acN f 1))])), (b1, .inr (10, [.ref w1, .int (nI (uOf W1)), .int sk1])), (w1, .inl (dA 1, 2, .inr (.inl (lwd W1)))), (xq9, xe9)] H) (hgs : gs = slF f ∧ kind = 0 ∨ gs = upd (slF f) j (-1) ∧ kind ≠ 0) (hL : LogT dA ad0 ae9 (rN f + 1) g9 xq9 xe9) (hN : NtP D B f g9 (rN f) vs H) (hvs : vs = ntE (wrF f kind j key v) (rN f + 1)) (h0 : W0 < 2 ^ 101) (h1 : W1 < 2 ^ 101) (g0 : gapB f 0 W0) (g1 : gapB f 1 W1) :
    TrO D dA B ad0 (wrF f kind j key v) st jn al mc9 ae9 sl sa h se s0 b0 w0 sk0 W0 s1 b1 w1 sk1 W1 xq9 xe9 g9 H := by
  have hn := hB.a.2.1
  have he : ∀ k, k ≠ 0 → k ≠ 9 + j → (k < 218 + 5 * rN f ∨ 223 + 5 * rN f ≤ k) → wrF f kind j key v k = f k := fun k a b c => wrF_n a b c
  have e0 := wrF_0 (f := f) (kind := kind) (j := j) (key := key) (v := v) (by omega)
  have ej := wrF_j (f := f) (kind := kind) (j := j) (key := key) (v := v)
  have hc : ∀ r, 1 ≤ r → r ≤ rN f → ∀ w, w < 5 → rcf (wrF f kind j key v) r w = rcf f r w := fun r h1 h2 w hw => wrF_c (by omega) h1 h2 hw
  have hN' := hN.one hc hvs
  generalize wrF f kind j key v = F at *
  have er : rN F = rN f + 1 := rN_v e0 (by omega)
  refine ⟨tr_to hP (he 1 (by omega) (by omega) (by omega)) (he 2 (by omega) (by omega) (by omega)) (he 3 (by omega) (by omega) (by omega)) (he 4 (by omega) (by omega) (by omega)) (he 5 (by omega) (by omega) (by omega)) (he 6 (by omega) (by omega) (by omega)) er (rcN_c (he _ (by omega) (by omega) (by omega))) (apN_c (he _ (by omega) (by omega) (by omega))) (acN_c (he _ (by omega) (by omega) (by omega))) (rcN_c (he _ (by omega) (by omega) (by omega))) (apN_c (he _ (by omega) (by omega) (by omega))) (acN_c (he _ (by omega) (by omega) (by omega))) (fun i hi => ?_) (fun i hi => (he _ (by omega) (by omega) (by omega)).symm), by rw [er]; exact hL, by rw [er]; exact hN', h0, h1, gapB_c g0 (fun r _ _ => he _ (by omega) (by omega) (by omega)), gapB_c g1 (fun r _ _ => he _ (by omega) (by omega) (by omega))⟩
  rcases hgs with ⟨rfl, hk⟩ | ⟨rfl, hk⟩
  · by_cases e : i = j
    · subst e; rw [if_pos hk] at ej; exact (slF_eq ej).symm
    · exact (slF_eq (he _ (by omega) (by omega) (by omega))).symm
  · by_cases e : i = j
    · subst e; rw [if_neg hk] at ej; rw [upd_s]; exact (slF_z ej).symm
    · rw [upd_n e]; exact (slF_eq (he _ (by omega) (by omega) (by omega))).symm
theorem tr_ship {b x : Nat} (hB : InvB f M) (hb : b < 2) (hx : x ≤ 100) (hP : va_P D vwCl [(st, .inr (1, [.ref jn, .ref sl, .ref sa, .ref se, .int (f 1), .int (f 2), .int (f 3), .int (f 4), .int (f 5), .int (f 6)])), (jn, .inr (2, [.ref al])), (al, .inr (9, [.int mc, .ref ae, .int (nI (rN f))])), (sl, .inl (dA 0, 3, .inl (slF f))), (sa, .inl (dA 4, 2, .inr (.inr (.inr (.inr h))))), (se, .inl (dA 0, 2, .inl (seF f))), (s0, .inr (3, [.int (nI (if 0 = b then x else rcN f 0)), .int (nI (apN f 0)), .ref b0, .int (nI (acN f 0))])), (b0, .inr (10, [.ref w0, .int (nI (uOf W0)), .int sk0])), (w0, .inl (dA 1, 2, .inr (.inl (lwd W0)))), (s1, .inr (3, [.int (nI (if 1 = b then x else rcN f 1)), .int (nI (apN f 1)), .ref b1, .int (nI (acN f 1))])), (b1, .inr (10, [.ref w1, .int (nI (uOf W1)), .int sk1])), (w1, .inl (dA 1, 2, .inr (.inl (lwd W1)))), (xq, xe)] H) (hL : LogT dA ad0 ae (rN f) g xq xe) (hN : NtA D B f g (rN f) H) (h0 : W0 < 2 ^ 101) (h1 : W1 < 2 ^ 101) (g0 : gapB f 0 W0) (g1 : gapB f 1 W1) :
    TrO D dA B ad0 (upd f (12 + 3 * b + 0) (nI x)) st jn al mc ae sl sa h se s0 b0 w0 sk0 W0 s1 b1 w1 sk1 W1 xq xe g H := by
  have he : ∀ k, k ≠ 12 + 3 * b → upd f (12 + 3 * b + 0) (nI x) k = f k := fun k h1 => upd_n h1
  have ej : sbf (upd f (12 + 3 * b + 0) (nI x)) b 0 = nI x := upd_s
  generalize upd f (12 + 3 * b + 0) (nI x) = F at *
  have er : rN F = rN f := rN_c (he 0 (by omega))
  have hr : ∀ c, c < 2 → rcN F c = (if c = b then x else rcN f c) := fun c hc => by
    by_cases e : c = b
    · subst e; rw [if_pos rfl]; exact rcN_v ej (by omega)
    · rw [if_neg e]; exact rcN_c (he _ (by omega))
  refine ⟨tr_to hP (he 1 (by omega)) (he 2 (by omega)) (he 3 (by omega)) (he 4 (by omega)) (he 5 (by omega)) (he 6 (by omega)) er (hr 0 (by omega)) (apN_c (he _ (by omega))) (acN_c (he _ (by omega))) (hr 1 (by omega)) (apN_c (he _ (by omega))) (acN_c (he _ (by omega))) (fun i hi => (slF_eq (he _ (by omega))).symm) (fun i hi => (he _ (by omega)).symm), by rw [er]; exact hL, by rw [er]; exact hN.congr (fun r h1 _ w _ => he _ (by omega)), h0, h1, gapB_c g0 (fun r _ _ => he _ (by omega)), gapB_c g1 (fun r _ _ => he _ (by omega))⟩
theorem tr_tick {k : Nat} (hB : InvB f M) (hP : va_P D vwCl [(st, .inr (1, [.ref jn, .ref sl, .ref sa, .ref se, .int (tickK f k 1), .int (f 2), .int (f 3), .int (f 4), .int (f 5), .int (f 6 + nI (tickS f k))])), (jn, .inr (2, [.ref al])), (al, .inr (9, [.int mc, .ref ae, .int (nI (rN f))])), (sl, .inl (dA 0, 3, .inl (slF f))), (sa, .inl (dA 4, 2, .inr (.inr (.inr (.inr h))))), (se, .inl (dA 0, 2, .inl (seF f))), (s0, .inr (3, [.int (nI (rcN f 0)), .int (nI (apN (tickK f k) 0)), .ref b0, .int (nI (acN f 0))])), (b0, .inr (10, [.ref w0, .int (nI (uOf W0)), .int sk0])), (w0, .inl (dA 1, 2, .inr (.inl (lwd W0)))), (s1, .inr (3, [.int (nI (rcN f 1)), .int (nI (apN (tickK f k) 1)), .ref b1, .int (nI (acN f 1))])), (b1, .inr (10, [.ref w1, .int (nI (uOf W1)), .int sk1])), (w1, .inl (dA 1, 2, .inr (.inl (lwd W1)))), (xq, xe)] H) (hL : LogT dA ad0 ae (rN f) g xq xe) (hN : NtA D B f g (rN f) H) (h0 : W0 < 2 ^ 101) (h1 : W1 < 2 ^ 101) (g0 : gapB f 0 W0) (g1 : gapB f 1 W1) :
    TrO D dA B ad0 (upd (tickK f k) 6 (tickK f k 6 + nI (tickS f k))) st jn al mc ae sl sa h se s0 b0 w0 sk0 W0 s1 b1 w1 sk1 W1 xq xe g H := by
  have he : ∀ i, i ≠ 1 → i ≠ 6 → i ≠ 13 → i ≠ 16 → upd (tickK f k) 6 (tickK f k 6 + nI (tickS f k)) i = f i := fun i a b c d => by rw [upd_n b]; exact tickK_s f k i a c d
  have e1 : upd (tickK f k) 6 (tickK f k 6 + nI (tickS f k)) 1 = tickK f k 1 := upd_n (by omega)
  have e6 : upd (tickK f k) 6 (tickK f k 6 + nI (tickS f k)) 6 = f 6 + nI (tickS f k) := by rw [upd_s, tickK_s f k 6 (by omega) (by omega) (by omega)]
  have ea : ∀ b, b < 2 → apN (upd (tickK f k) 6 (tickK f k 6 + nI (tickS f k))) b = apN (tickK f k) b := fun b hb => apN_c (upd_n (by omega))
  generalize upd (tickK f k) 6 (tickK f k 6 + nI (tickS f k)) = F at *
  have er : rN F = rN f := rN_c (he 0 (by omega) (by omega) (by omega) (by omega))
  refine ⟨tr_to hP e1 (he 2 (by omega) (by omega) (by omega) (by omega)) (he 3 (by omega) (by omega) (by omega) (by omega)) (he 4 (by omega) (by omega) (by omega) (by omega)) (he 5 (by omega) (by omega) (by omega) (by omega)) e6 er (rcN_c (he _ (by omega) (by omega) (by omega) (by omega))) (ea 0 (by omega)) (acN_c (he _ (by omega) (by omega) (by omega) (by omega))) (rcN_c (he _ (by omega) (by omega) (by omega) (by omega))) (ea 1 (by omega)) (acN_c (he _ (by omega) (by omega) (by omega) (by omega))) (fun i hi => (slF_eq (he _ (by omega) (by omega) (by omega) (by omega))).symm) (fun i hi => (he _ (by omega) (by omega) (by omega) (by omega)).symm), by rw [er]; exact hL, by rw [er]; exact hN.congr (fun r h1 _ w _ => he _ (by omega) (by omega) (by omega) (by omega)), h0, h1, gapB_c g0 (fun r _ _ => he _ (by omega) (by omega) (by omega) (by omega)), gapB_c g1 (fun r _ _ => he _ (by omega) (by omega) (by omega) (by omega))⟩
end TRX
