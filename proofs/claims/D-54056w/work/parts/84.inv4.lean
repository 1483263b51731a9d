/-! counted gaps, the lowest gap, a record told -/
theorem ct_gaps {f : Nat → Int32} {b W : Nat} (h : gapB f b W) : ∀ k, k ≤ 100 → fb_ct (fun i => W.testBit i) (k + 1) = gaps f b k := by
  intro k
  induction k with
  | zero => intro _; rw [fb_ct_succ]; show fb_ct _ 0 + (if W.testBit 0 = true then 1 else 0) = 0; rw [h.1]; rfl
  | succ k ih =>
    intro hk
    rw [fb_ct_succ, ih (by omega)]
    show _ = gaps f b k + _
    by_cases c : gpf f b (k + 1)
    · rw [if_pos c, if_pos ((h.2 (k + 1) (by omega) (by omega)).2 c)]
    · rw [if_neg c, if_neg (fun q => c ((h.2 (k + 1) (by omega) (by omega)).1 q))]
theorem pcN_gaps {f : Nat → Int32} {b W : Nat} (h : gapB f b W) : pcN W = gaps f b 100 := ct_gaps h 100 (by omega)
theorem lowGap_none {f : Nat → Int32} {b : Nat} : ∀ k r, (∀ j, r < j → j ≤ r + k → ¬ gpf f b j) → lowGap f b k r = 0 := by
  intro k
  induction k with
  | zero => intro r _; rfl
  | succ k ih =>
    intro r h
    show (if _ then _ else _) = _
    rw [if_neg (h (r + 1) (by omega) (by omega))]
    exact ih (r + 1) (fun j h1 h2 => h j (by omega) (by omega))
theorem lowGap_some {f : Nat → Int32} {b x : Nat} (hx : gpf f b x) : ∀ k r, r < x → x ≤ r + k → (∀ j, r < j → j < x → ¬ gpf f b j) → lowGap f b k r = x := by
  intro k
  induction k with
  | zero => intro r h1 h2; omega
  | succ k ih =>
    intro r h1 h2 h
    show (if _ then _ else _) = _
    by_cases e : x = r + 1
    · subst e; rw [if_pos hx]
    · rw [if_neg (h (r + 1) (by omega) (by omega))]
      exact ih (r + 1) (by omega) (by omega) (fun j q1 q2 => h j (by omega) q2)
theorem lowGap_0 {f : Nat → Int32} {b W : Nat} (h : gapB f b W) (hW : W = 0) : lowGap f b 100 0 = 0 :=
  lowGap_none 100 0 (fun j h1 h2 q => by have := (h.2 j (by omega) (by omega)).2 q; rw [hW, Nat.zero_testBit] at this; exact absurd this (by decide))
theorem lowGap_b {f : Nat → Int32} {b W r : Nat} (h : gapB f b W) (h1 : 1 ≤ r) (h2 : r ≤ 100) (hl : LowB W r) : lowGap f b 100 0 = r :=
  lowGap_some ((h.2 r h1 h2).1 hl.1) 100 0 (by omega) (by omega) (fun j q1 q2 q => by have := (h.2 j (by omega) (by omega)).2 q; rw [hl.2 j q2] at this; exact absurd this (by decide))
theorem lowG_0 {f : Nat → Int32} {b W : Nat} (h : gapB f b W) (hW : W = 0) : oNF (-1) = lowG f b := by
  unfold lowG; rw [if_pos (lowGap_0 h hW)]; rfl
theorem lowG_b {f : Nat → Int32} {b W r : Nat} (h : gapB f b W) (h1 : 1 ≤ r) (h2 : r ≤ 100) (hl : LowB W r) : oNF (nI r) = lowG f b := by
  have e := lowGap_b h h1 h2 hl
  unfold lowG; rw [e, if_neg (by omega)]; exact oNF_p rfl (by omega)
theorem rec_told {f : Nat → Int32} {M r i : Nat} (h : InvB f M) (h1 : 1 ≤ r) (h2 : r ≤ rN f) (hi : i ≤ 4) : oNF (tld (rcf f r 0) (rcf f r 1) (nfF f r 2) (nfF f r 3) (rcf f r 4) i) = rcf f r i := by
  have hr := h.rec_ r h1 h2
  have tl := h.tM
  have ml := h.lim
  rcases (show i = 0 ∨ i = 1 ∨ i = 2 ∨ i = 3 ∨ i = 4 by omega) with rfl | rfl | rfl | rfl | rfl
  · obtain ⟨k, a1, a2⟩ := hr.kind
    exact oNF_p a2 (by omega)
  · obtain ⟨k, a0, a1, a2⟩ := hr.by_
    exact oNF_p a2 (by omega)
  · show oNF (nfF f r 2) = _
    unfold nfF
    by_cases c : rcf f r 0 = 0
    · obtain ⟨⟨k, a1, a2⟩, -⟩ := hr.put c
      rw [if_pos c]; exact oNF_p a2 (by omega)
    · rw [if_neg c, (hr.end_ c).1]; rfl
  · show oNF (nfF f r 3) = _
    unfold nfF
    by_cases c : rcf f r 0 = 0
    · obtain ⟨-, k, a1, a2⟩ := hr.put c
      rw [if_pos c]; exact oNF_p a2 (by omega)
    · rw [if_neg c, (hr.end_ c).2]; rfl
  · obtain ⟨k, a1, a2⟩ := hr.tick
    exact oNF_p a2 (by omega)
theorem lt_m1 {i : Int32} (h1 : ¬ i < -1) (h2 : i < 0) : i = -1 := by
  have a1 := Int32.not_lt.1 h1
  have a2 : i.toInt < 0 := Int32.lt_iff_toInt_lt.1 h2
  have a3 : (-1 : Int) ≤ i.toInt := Int32.le_iff_toInt_le.1 a1
  exact Int32.toInt_inj.1 (show i.toInt = -1 by omega)
theorem max_le {i : Int32} {N : Nat} (hN : N < 2 ^ 31) : (nI 0 ≤ (if nI (0) < i then i else nI (0)) ∧ (if nI (0) < i then i else nI (0)) ≤ nI N) ↔ i ≤ nI N := by
  by_cases c : nI 0 < i
  · rw [if_pos c]; exact ⟨fun h => h.2, fun h => ⟨Int32.le_of_lt c, h⟩⟩
  · rw [if_neg c]; exact ⟨fun _ => Int32.le_trans (Int32.not_lt.1 c) (nI_le (by omega) hN), fun _ => ⟨Int32.le_refl _, nI_le (by omega) hN⟩⟩
