/-! the history -/
theorem RecOk.w7 {f f' : Nat → Int32} {M r : Nat} (h : RecOk f M r) (hr : r ≤ 100) (he : ∀ j, j < 718 → f' j = f j) : RecOk f' M r := h.congr (fun w hw => he _ (by omega)) (by show (f 3).toNatClampNeg ≤ (f' 3).toNatClampNeg; rw [he 3 (by omega)]; exact Nat.le_refl _)
theorem InvB.w7 {f f' : Nat → Int32} {M : Nat} (h : InvB f M) (he : ∀ j, j < 718 → f' j = f j) : InvB f' M := by
  have e3 : tN f' = tN f := by unfold tN; rw [he 3 (by omega)]
  have e1 : kN f' = kN f := by unfold kN; rw [he 1 (by omega)]
  have e0 : rN f' = rN f := by unfold rN; rw [he 0 (by omega)]
  have hn := h.a.2.1
  have er : ∀ r w, r ≤ 100 → w < 5 → rcf f' r w = rcf f r w := fun r w hr hw => he _ (by omega)
  have es : ∀ j, j < 3 → f' (9 + j) = f (9 + j) := fun j hj => he _ (by omega)
  refine ⟨InvA_congr (fun k hk => he k (by omega)) h.a, h.lim, ?_, ?_, ?_, ?_, ?_, ?_, ?_, ?_, ?_, ?_⟩
  · rw [he 3 (by omega), e3]; exact h.t3
  · rw [e3]; exact h.tM
  · rw [he 1 (by omega), e1]; exact h.k1
  · rw [e1]; exact h.kM
  · intro j hj; rw [es j hj, e3]; exact h.slot j hj
  · intro i j hi hj; rw [es i hi, es j hj]; exact h.apart i j hi hj
  · intro r h1 h2; rw [e0] at h2; exact (h.rec_ r h1 h2).w7 (by omega) he
  · intro r r' h1 h2 h3; rw [e0] at h3; rw [er r 0 (by omega) (by omega), er r' 1 (by omega) (by omega), er r 1 (by omega) (by omega)]; exact h.after r r' h1 h2 h3
  · intro j r hj h1 h2; rw [e0] at h2; rw [er r 0 (by omega) (by omega), er r 1 (by omega) (by omega), es j hj]; exact h.over j r hj h1 h2
  · intro b hb; have : sbf f' b 2 = sbf f b 2 := he _ (by omega); rw [this]; exact h.ast b hb
section HRS
variable {D : va_G} {dA : Nat → ClassId} {A B : Nat → Prop} {f f' : Nat → Int32} {st M : Nat} {H0 H : Heap} {locs : List Loc}
theorem gapB.w7 {b w : Nat} (hb : b < 2) (h : gapB f b w) (he : ∀ j, j < 718 → f' j = f j) : gapB f' b w := by
  refine ⟨h.1, fun r h1 h2 => ?_⟩
  show _ ↔ f' (17 + 100 * b + r) = nI 1
  rw [he _ (by omega)]; exact h.2 r h1 h2
theorem LogRA.w7 {ae n : Nat} (h : LogRA D dA A f ae n H) (he : ∀ j, j < 718 → f' j = f j) : LogRA D dA A f' ae n H :=
  h.congr (fun r h1 h2 w hw => he _ (by have := h.1; omega))
theorem SR.w7 (h : SR D dA A f st H) (he : ∀ j, j < 718 → f' j = f j) : SR D dA A f' st H := by
  obtain ⟨jo, slo, sao, seo, alo, mco, aeo, h, t0, c0, d0, e0, W0, t1, c1, d1, e1, W1, q1, q2, q3, q4, q5, q6, q7, q8⟩ := h
  have r0 : rN f' = rN f := by unfold rN; rw [he 0 (by omega)]
  have rc : ∀ b, b < 2 → rcN f' b = rcN f b := fun b hb => by show (f' (12 + 3 * b + 0)).toNatClampNeg = _; rw [he _ (by omega)]; rfl
  have ra : ∀ b, b < 2 → apN f' b = apN f b := fun b hb => by show (f' (12 + 3 * b + 1)).toNatClampNeg = _; rw [he _ (by omega)]; rfl
  have rk : ∀ b, b < 2 → acN f' b = acN f b := fun b hb => by show (f' (12 + 3 * b + 2)).toNatClampNeg = _; rw [he _ (by omega)]; rfl
  refine ⟨jo, slo, sao, seo, alo, mco, aeo, h, t0, c0, d0, e0, W0, t1, c1, d1, e1, W1, ⟨?_, ?_⟩, by rw [r0]; exact q2.w7 he, q3, q4, q5, q6, q7.w7 (by omega) he, q8.w7 (by omega) he⟩
  · have p1 := (q1.1.arr 3 rfl (f' := slF f') (fun j hj => by unfold slF; rw [he (9 + j) (by omega)])).arr 5 rfl (f' := seF f') (fun j hj => (he (7 + j) (by omega)).symm)
    unfold srW
    rw [r0, rc 0 (by omega), rc 1 (by omega), ra 0 (by omega), ra 1 (by omega), rk 0 (by omega), rk 1 (by omega), he 1 (by omega), he 2 (by omega), he 3 (by omega), he 4 (by omega), he 5 (by omega), he 6 (by omega)]
    exact p1
  · intro k q hk
    have e : (srW dA f' st jo slo sao seo alo mco aeo h t0 c0 d0 e0 W0 t1 c1 d1 e1 W1).map Prod.fst = (srW dA f st jo slo sao seo alo mco aeo h t0 c0 d0 e0 W0 t1 c1 d1 e1 W1).map Prod.fst := rfl
    have h1 : ((srW dA f' st jo slo sao seo alo mco aeo h t0 c0 d0 e0 W0 t1 c1 d1 e1 W1).map Prod.fst)[k]? = some q.1 := by rw [List.getElem?_map, hk]; rfl
    rw [e, List.getElem?_map] at h1
    cases h2 : (srW dA f st jo slo sao seo alo mco aeo h t0 c0 d0 e0 W0 t1 c1 d1 e1 W1)[k]? with
    | none => rw [h2] at h1; cases h1
    | some q0 =>
      rw [h2] at h1
      have h3 : q0.1 = q.1 := Option.some.inj h1
      rw [← h3]; exact q1.2 k q0 h2
theorem SR.ob (h : SR D dA A f st H) : ObV D 1 A st H := by
  obtain ⟨jo, slo, sao, seo, alo, mco, aeo, h, t0, c0, d0, e0, W0, t1, c1, d1, e1, W1, q1, -⟩ := h
  exact ⟨_, q1.2 0 _ rfl, q1.1 0 _ rfl⟩
/-- what is alive and not among the old ones -/
theorem LogRA.call {ae n : Nat} (h : LogRA D dA B f ae n H) (hAB : ∀ q, A q → B q ∨ H.size ≤ q) : LogRA D dA A f ae n H := by
  obtain ⟨h1, h | ⟨cap, g, h2, h3, h4, h5, h6⟩⟩ := h
  · exact ⟨h1, Or.inl h⟩
  · refine ⟨h1, Or.inr ⟨cap, g, h2, h3, fun z => (hAB _ z).elim h4 (Nat.not_le.2 h5.lt), h5, fun k hk => ?_⟩⟩
    obtain ⟨y, a1, a2, a3⟩ := h6 k hk
    exact ⟨y, a1, fun z => (hAB _ z).elim a2 (Nat.not_le.2 a3.lt), a3⟩
theorem SR.call (h : SR D dA B f st H) (hAB : ∀ q, A q → B q ∨ H.size ≤ q) : SR D dA A f st H := by
  obtain ⟨jo, slo, sao, seo, alo, mco, aeo, h, t0, c0, d0, e0, W0, t1, c1, d1, e1, W1, q1, q2, q3⟩ := h
  exact ⟨jo, slo, sao, seo, alo, mco, aeo, h, t0, c0, d0, e0, W0, t1, c1, d1, e1, W1, ⟨q1.1, fun k q hk z => (hAB _ z).elim (q1.2 k q hk) (Nat.not_le.2 (q1.1 k q hk).lt)⟩, q2.call hAB, q3⟩
def m17 (x : Nat) : Nat := if x < 17 then x else x - 17
theorem m17_s {x : Nat} (h : x < 33) : i17 (m17 x) = m17 (x + 1) := by
  unfold i17 m17
  (repeat' split) <;> omega
theorem m17_lt {x : Nat} (h : x < 34) : m17 x < 17 := by unfold m17; split <;> omega
theorem s17_m {hd p : Nat} (h : hd < 17) (hp : p ≤ 16) : s17 (m17 (hd + p)) hd = p := by
  unfold s17 m17
  (repeat' split) <;> omega
theorem m17_inj {hd i j : Nat} (h : hd < 17) (hi : i ≤ 16) (hj : j ≤ 16) (e : m17 (hd + i) = m17 (hd + j)) : i = j := by
  unfold m17 at e
  split at e <;> split at e <;> omega
theorem m17_sh {hd k : Nat} (h : hd < 17) (hk : k ≤ 15) : m17 (i17 hd + k) = m17 (hd + (k + 1)) := by
  unfold m17 i17
  (repeat' split) <;> omega
theorem dq_ne {hd p : Nat} (h : hd < 17) (hp : p ≤ 4) : hd ≠ i17 (m17 (hd + p)) := by
  unfold i17 m17
  (repeat' split) <;> omega
theorem dq_n0 {hd p : Nat} (h : hd < 17) (h1 : 1 ≤ p) (hp : p ≤ 16) : hd ≠ m17 (hd + p) := by
  unfold m17
  (repeat' split) <;> omega
theorem dq_sz {hd p : Nat} (h : hd < 17) (hp : p ≤ 4) : s17 (i17 (m17 (hd + p))) hd = p + 1 := by
  unfold s17 i17 m17
  (repeat' split) <;> omega
/-- the stores of the history, told by the reference's big array -/
def HR (D : va_G) (dA : Nat → ClassId) (B : Nat → Prop) (M : Nat) (G : Nat → Int32) (p hd : Nat) (gq : Nat → Option Nat) (H : Heap) : Prop :=
  ∀ k, k < p → ∃ s : Nat, gq (m17 (hd + k)) = some s ∧ SR D dA B (fun j => G (718 * k + j)) s H ∧ InvB (fun j => G (718 * k + j)) M
variable {G : Nat → Int32} {p hd : Nat} {gq : Nat → Option Nat}
theorem HR.kept (h : HR D dA A M G p hd gq H0) (hS : va_S A H0 H locs) : HR D dA A M G p hd gq H := fun k hk => by
  obtain ⟨s, h1, h2, h3⟩ := h k hk
  exact ⟨s, h1, h2.kept hS, h3⟩
theorem HR.narrow (h : HR D dA A M G p hd gq H) (hAB : ∀ q, B q → A q) : HR D dA B M G p hd gq H := fun k hk => by
  obtain ⟨s, h1, h2, h3⟩ := h k hk
  exact ⟨s, h1, h2.narrow hAB, h3⟩
theorem HR.call (h : HR D dA B M G p hd gq H) (hAB : ∀ q, A q → B q ∨ H.size ≤ q) : HR D dA A M G p hd gq H := fun k hk => by
  obtain ⟨s, h1, h2, h3⟩ := h k hk
  exact ⟨s, h1, h2.call hAB, h3⟩
theorem HR.mono {M' : Nat} (h : HR D dA A M G p hd gq H) (hM : M ≤ M') (hl : M' < 2 ^ 30) : HR D dA A M' G p hd gq H := fun k hk => by
  obtain ⟨s, h1, h2, h3⟩ := h k hk
  exact ⟨s, h1, h2, h3.mono hM hl⟩
theorem HR.add (h : HR D dA A M G p hd gq H) (hhd : hd < 17) (hp : p ≤ 4) (hs : SR D dA A f st H) (hB : InvB f M) : HR D dA A M (ptGi f G p 718) (p + 1) hd (va_up gq (m17 (hd + p)) (some st)) H := by
  intro k hk
  by_cases e : k = p
  · subst e
    have he : ∀ j, j < 718 → (fun j => ptGi f G k 718 (718 * k + j)) j = f j := fun j hj => by
      show ptGi f G k 718 (718 * k + j) = _
      unfold ptGi
      rw [if_pos (by omega)]; congr 1; omega
    exact ⟨st, if_pos rfl, hs.w7 he, hB.w7 he⟩
  · obtain ⟨s, h1, h2, h3⟩ := h k (by omega)
    have he : ∀ j, j < 718 → (fun j => ptGi f G p 718 (718 * k + j)) j = (fun j => G (718 * k + j)) j := fun j hj => by
      show ptGi f G p 718 (718 * k + j) = _
      unfold ptGi
      rw [if_neg (by omega)]
    refine ⟨s, ?_, h2.w7 he, h3.w7 he⟩
    rw [← h1]
    exact if_neg (fun q => e (m17_inj hhd (by omega) (by omega) q))
theorem HR.shift (h : HR D dA A M G (p + 1) hd gq H) (hhd : hd < 17) (hp : p ≤ 4) : HR D dA A M (fun j => G (j + 718)) p (i17 hd) (va_up gq hd none) H := by
  intro k hk
  obtain ⟨s, h1, h2, h3⟩ := h (k + 1) (by omega)
  have he : ∀ j, j < 718 → (fun j => G (718 * k + j + 718)) j = (fun j => G (718 * (k + 1) + j)) j := fun j hj => by
    show G (718 * k + j + 718) = G (718 * (k + 1) + j)
    congr 1; omega
  refine ⟨s, ?_, h2.w7 he, h3.w7 he⟩
  rw [m17_sh hhd (by omega), ← h1]
  refine if_neg (fun q => ?_)
  have e0 : m17 (hd + 0) = hd := by unfold m17; rw [if_pos (by omega)]; omega
  rw [← e0] at q
  have := m17_inj hhd (by omega) (by omega) (by rw [e0] at q; exact q.trans e0.symm : m17 (hd + (k + 1)) = m17 (hd + 0))
  omega
theorem HR.w7 {G' : Nat → Int32} (h : HR D dA A M G p hd gq H) (he : ∀ j, j < 718 * p → G' j = G j) : HR D dA A M G' p hd gq H := fun k hk => by
  obtain ⟨s, h1, h2, h3⟩ := h k hk
  have e : ∀ j, j < 718 → (fun j => G' (718 * k + j)) j = (fun j => G (718 * k + j)) j := fun j hj => he _ (by
    have : 718 * k + 718 ≤ 718 * p := by
      have := Nat.mul_le_mul_left 718 (show k + 1 ≤ p by omega)
      omega
    omega)
  exact ⟨s, h1, h2.w7 e, h3.w7 e⟩
/-- behind a change -/
theorem HR.ch (h : HR D dA A M G p hd gq H) (hhd : hd < 17) (hp : p ≤ 4) (hs : SR D dA A f st H) (hB : InvB f M) :
    HR D dA A M (chG 0 f G p) (chP 0 p) (if p = 4 then i17 hd else hd) (if p = 4 then va_up (va_up gq (m17 (hd + p)) (some st)) hd none else va_up gq (m17 (hd + p)) (some st)) H := by
  have h1 := h.add hhd hp hs hB
  by_cases e : p = 4
  · subst e
    rw [chG_4 rfl rfl, chP_4 rfl rfl, if_pos rfl, if_pos rfl]
    refine (h1.shift hhd (by omega)).w7 (fun j hj => ?_)
    show ptGi f (shGi G 2154) 3 718 j = ptGi f G 4 718 (j + 718)
    show (if 718 * 3 ≤ j ∧ j < 718 * 3 + 718 then f (j - 718 * 3) else (if j < 2154 then G (j + 718) else G j)) = (if 718 * 4 ≤ j + 718 ∧ j + 718 < 718 * 4 + 718 then f (j + 718 - 718 * 4) else G (j + 718))
    by_cases c : 718 * 3 ≤ j ∧ j < 718 * 3 + 718
    · have c2 : 718 * 4 ≤ j + 718 ∧ j + 718 < 718 * 4 + 718 := by omega
      rw [if_pos c, if_pos c2, show j + 718 - 718 * 4 = j - 718 * 3 by omega]
    · have c2 : ¬ (718 * 4 ≤ j + 718 ∧ j + 718 < 718 * 4 + 718) := by omega
      have c3 : j < 2154 := by omega
      rw [if_neg c, if_neg c2, if_pos c3]
  · rw [chG_n rfl e, chP_n rfl e, if_neg e, if_neg e]
    exact h1
end HRS
