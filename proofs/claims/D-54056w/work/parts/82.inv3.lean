/-! a store that nobody changes, told by the reference's array -/
def acN (f : Nat → Int32) (b : Nat) : Nat := (sbf f b 2).toNatClampNeg
theorem InvB.ac {f : Nat → Int32} {M b : Nat} (h : InvB f M) (hb : b < 2) : sbf f b 2 = nI (acN f b) ∧ acN f b ≤ 1 := by
  rcases h.ast b hb with e | e
  · have : acN f b = 0 := by show (sbf f b 2).toNatClampNeg = _; rw [e]; exact nI_clamp (n := 0) (by decide)
    rw [this]; exact ⟨e, by omega⟩
  · have : acN f b = 1 := by show (sbf f b 2).toNatClampNeg = _; rw [e]; exact nI_clamp (n := 1) (by decide)
    rw [this]; exact ⟨e, by omega⟩
abbrev srW (dA : Nat → ClassId) (f : Nat → Int32) (st jo slo sao seo alo : Nat) (mco : Int32) (aeo : Nat) (h : Nat → Option Nat) (t0 c0 d0 : Nat) (e0 : Int32) (W0 t1 c1 d1 : Nat) (e1 : Int32) (W1 : Nat) : va_W := [(st, .inr (1, [.ref jo, .ref slo, .ref sao, .ref seo, .int (f 1), .int (f 2), .int (f 3), .int (f 4), .int (f 5), .int (f 6)])), (jo, .inr (2, [.ref alo])), (alo, .inr (9, [.int mco, .ref aeo, .int (nI (rN f))])), (slo, .inl (dA 0, 3, .inl (slF f))), (sao, .inl (dA 4, 2, .inr (.inr (.inr (.inr h))))), (seo, .inl (dA 0, 2, .inl (seF f))), (t0, .inr (3, [.int (nI (rcN f 0)), .int (nI (apN f 0)), .ref c0, .int (nI (acN f 0))])), (c0, .inr (10, [.ref d0, .int (nI (uOf W0)), .int e0])), (d0, .inl (dA 1, 2, .inr (.inl (lwd W0)))), (t1, .inr (3, [.int (nI (rcN f 1)), .int (nI (apN f 1)), .ref c1, .int (nI (acN f 1))])), (c1, .inr (10, [.ref d1, .int (nI (uOf W1)), .int e1])), (d1, .inl (dA 1, 2, .inr (.inl (lwd W1))))]
def SR (D : va_G) (dA : Nat → ClassId) (B : Nat → Prop) (f : Nat → Int32) (st : Nat) (H : Heap) : Prop := ∃ (jo slo sao seo alo : Nat) (mco : Int32) (aeo : Nat) (h : Nat → Option Nat) (t0 c0 d0 : Nat) (e0 : Int32) (W0 t1 c1 d1 : Nat) (e1 : Int32) (W1 : Nat),
  zFz D B (srW dA f st jo slo sao seo alo mco aeo h t0 c0 d0 e0 W0 t1 c1 d1 e1 W1) H ∧ LogRA D dA B f aeo (rN f) H ∧ h 0 = some t0 ∧ h 1 = some t1 ∧ W0 < 2 ^ 101 ∧ W1 < 2 ^ 101 ∧ gapB f 0 W0 ∧ gapB f 1 W1
section SRS
variable {D : va_G} {dA : Nat → ClassId} {A B : Nat → Prop} {f : Nat → Int32} {st : Nat} {H0 H : Heap} {locs : List Loc}
theorem zFz.kept {ws : va_W} (h : zFz D A ws H0) (hS : va_S A H0 H locs) : zFz D A ws H := ⟨h.at hS, h.2⟩
theorem zFz.narrow {ws : va_W} (h : zFz D A ws H) (hAB : ∀ q, B q → A q) : zFz D B ws H := ⟨h.1, fun k q hk z => h.2 k q hk (hAB _ z)⟩
theorem SR.kept (h : SR D dA A f st H0) (hS : va_S A H0 H locs) : SR D dA A f st H := by
  obtain ⟨jo, slo, sao, seo, alo, mco, aeo, h, t0, c0, d0, e0, W0, t1, c1, d1, e1, W1, q1, q2, q3⟩ := h
  exact ⟨jo, slo, sao, seo, alo, mco, aeo, h, t0, c0, d0, e0, W0, t1, c1, d1, e1, W1, q1.kept hS, q2.kept hS, q3⟩
theorem SR.narrow (h : SR D dA A f st H) (hAB : ∀ q, B q → A q) : SR D dA B f st H := by
  obtain ⟨jo, slo, sao, seo, alo, mco, aeo, h, t0, c0, d0, e0, W0, t1, c1, d1, e1, W1, q1, q2, q3⟩ := h
  exact ⟨jo, slo, sao, seo, alo, mco, aeo, h, t0, c0, d0, e0, W0, t1, c1, d1, e1, W1, q1.narrow hAB, q2.narrow hAB, q3⟩
theorem SR.ro (h : SR D dA A f st H) : SR D dA (fun q => H.size ≤ q) f st H := by
  obtain ⟨jo, slo, sao, seo, alo, mco, aeo, h, t0, c0, d0, e0, W0, t1, c1, d1, e1, W1, q1, q2, q3⟩ := h
  exact ⟨jo, slo, sao, seo, alo, mco, aeo, h, t0, c0, d0, e0, W0, t1, c1, d1, e1, W1, zFz_ro q1.1, q2.ro, q3⟩
end SRS
theorem aCan_iff {f : Nat → Int32} {M b k : Nat} (h : InvB f M) (hb : b < 2) (hk : k ≤ 100) : aCan f b (nI k) ↔ (acN f b = 0 ∧ k ≤ apN f b) := by
  obtain ⟨a1, a2⟩ := h.ac hb
  obtain ⟨b1, b2, b3, b4⟩ := InvA_ap h.a hb
  have hn := h.a.2.1
  show (sbf f b 2 = 0 ∧ nI k ≤ sbf f b 1) ↔ _
  rw [a1, b2, nI_leI (by omega) (by omega)]
  exact and_congr_left (fun _ => nI_eq (b := 0) (by omega) (by omega))
theorem slF_n {f : Nat → Int32} {M j : Nat} (h : InvB f M) (hj : j < 3) : slF f j = -1 ↔ f (9 + j) = 0 := by
  obtain ⟨t, h1, h2⟩ := h.slot j hj
  have tl := h.tM
  have ml := h.lim
  unfold slF
  by_cases c : f (9 + j) = 0
  · rw [if_pos c]; exact ⟨fun _ => c, fun _ => rfl⟩
  · rw [if_neg c, h2]; exact ⟨fun q => absurd q (nI_ne1 (by omega)), fun q => absurd (h2.trans q) c⟩
theorem slF_v {f : Nat → Int32} {j : Nat} (h : ¬ f (9 + j) = 0) : slF f j = f (9 + j) := if_neg h
def oNF (x : Int32) : Int32 := if x = -1 then cNF else x
theorem oNF_p {x : Int32} {k : Nat} (h : x = nI k) (hk : k < 2 ^ 31) : oNF x = x := by
  unfold oNF; rw [if_neg (by rw [h]; exact nI_ne1 hk)]
