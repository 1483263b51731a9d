/-! what the orders answer -/
section ANS
variable {D : va_G} {A A1 B : Nat → Prop} {f : Nat → Int32} {g : Nat → Option Nat} {n M : Nat} {H0 H : Heap} {locs : List Loc}
theorem NtA.keptAB (h : NtA D (fun q => A q ∨ B q) f g n H0) (hS : va_S A H0 H locs) (hAB : ∀ q, A1 q → A q) : NtA D (fun q => A1 q ∨ B q) f g n H := fun k hk => by
  obtain ⟨y, h1, h2, h3⟩ := h k hk
  exact ⟨y, h1, fun z => z.elim (fun z => h2 (Or.inl (hAB _ z))) (fun z => h2 (Or.inr z)), h3.kept (hS.2.1 y h3.lt (fun z => h2 (Or.inl z)))⟩
theorem ac_0 {b : Nat} (h : InvB f M) (hb : b < 2) (hc : nI (acN f b) = 0) : ¬ sbf f b 2 = nI 1 := by
  rw [(h.ac hb).1, hc]; decide
theorem ac_1 {b : Nat} (h : InvB f M) (hb : b < 2) (hc : ¬ nI (acN f b) = 0) : sbf f b 2 = nI 1 := by
  rcases h.ast b hb with e | e
  · rw [(h.ac hb).1] at e; exact absurd e hc
  · exact e
theorem ship_t {b k : Nat} (h : InvB f M) (hb : b < 2) (h1 : 1 ≤ k) (hk : k ≤ 20) (hc : nI (acN f b) = 0) : oShip f (nI b) (nI k) = (true, nI (shipN f b k), upd f (12 + 3 * b + 0) (nI (rcN f b + shipN f b k))) := by
  unfold oShip
  rw [if_pos (zr_in (show b ≤ 1 by omega) (by omega)), if_pos ⟨nI_le h1 (by omega), nI_le hk (by omega)⟩, nI_clamp (show b < 2 ^ 31 by omega), if_neg (ac_0 h hb hc), nI_clamp (show k < 2 ^ 31 by omega)]
theorem ship_f {b k : Nat} (h : InvB f M) (hb : b < 2) (h1 : 1 ≤ k) (hk : k ≤ 20) (hc : ¬ nI (acN f b) = 0) : oShip f (nI b) (nI k) = (false, cNP, f) := by
  unfold oShip
  rw [if_pos (zr_in (show b ≤ 1 by omega) (by omega)), if_pos ⟨nI_le h1 (by omega), nI_le hk (by omega)⟩, nI_clamp (show b < 2 ^ 31 by omega), if_pos (ac_1 h hb hc)]
  rfl
theorem tick_t {k : Nat} (h1 : 1 ≤ k) (hk : k ≤ 99) : oTick f (nI k) = (true, nI (tickS f k), upd (tickK f k) 6 (tickK f k 6 + nI (tickS f k))) := by
  unfold oTick
  rw [if_pos ⟨nI_le h1 (by omega), nI_le hk (by omega)⟩, nI_clamp (by omega)]
theorem zr_1 {k : Int32} {N : Nat} (h : nI 1 ≤ k ∧ k ≤ nI N) (hN : N < 2 ^ 31) : ∃ j, 1 ≤ j ∧ j ≤ N ∧ k = nI j := by
  obtain ⟨j, hj, rfl⟩ := zr_of (k := k) (N := N) ⟨Int32.le_trans (show nI 0 ≤ nI 1 by decide) h.1, h.2⟩ hN
  exact ⟨j, (nI_leI (by omega) (by omega)).1 h.1, hj, rfl⟩
theorem bI_and1 {P : Prop} [Decidable P] : bI P &&& nI (1) = bI P := by
  by_cases q : P
  · rw [bI_t q]; decide
  · rw [bI_f q]; decide
theorem bI_and0 {P : Prop} [Decidable P] : bI P &&& nI (0) = nI (0) := by
  by_cases q : P
  · rw [bI_t q]; decide
  · rw [bI_f q]; decide
end ANS
