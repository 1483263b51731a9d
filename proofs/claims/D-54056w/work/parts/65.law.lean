/-! the invariant behind the equality, and what keeps it -/
def tN (f : Nat → Int32) : Nat := (f 3).toNatClampNeg
def kN (f : Nat → Int32) : Nat := (f 1).toNatClampNeg
abbrev RecOk (f : Nat → Int32) (M r : Nat) : Prop :=
  (∃ k, k ≤ 2 ∧ rcf f r 0 = nI k) ∧
  (∃ t, 1 ≤ t ∧ t ≤ tN f ∧ rcf f r 1 = nI t) ∧
  (rcf f r 0 = 0 → (∃ k, k ≤ 23 ∧ rcf f r 2 = nI k) ∧ ∃ v, v ≤ 999 ∧ rcf f r 3 = nI v) ∧
  (¬ rcf f r 0 = 0 → rcf f r 2 = cNF ∧ rcf f r 3 = cNF) ∧
  (∃ t, t ≤ M ∧ rcf f r 4 = nI t)
theorem RecOk.kind {f : Nat → Int32} {M r : Nat} (h : RecOk f M r) : ∃ k, k ≤ 2 ∧ rcf f r 0 = nI k := h.1
theorem RecOk.by_ {f : Nat → Int32} {M r : Nat} (h : RecOk f M r) : ∃ t, 1 ≤ t ∧ t ≤ tN f ∧ rcf f r 1 = nI t := h.2.1
theorem RecOk.put {f : Nat → Int32} {M r : Nat} (h : RecOk f M r) : rcf f r 0 = 0 → (∃ k, k ≤ 23 ∧ rcf f r 2 = nI k) ∧ ∃ v, v ≤ 999 ∧ rcf f r 3 = nI v := h.2.2.1
theorem RecOk.end_ {f : Nat → Int32} {M r : Nat} (h : RecOk f M r) : ¬ rcf f r 0 = 0 → rcf f r 2 = cNF ∧ rcf f r 3 = cNF := h.2.2.2.1
theorem RecOk.tick {f : Nat → Int32} {M r : Nat} (h : RecOk f M r) : ∃ t, t ≤ M ∧ rcf f r 4 = nI t := h.2.2.2.2
abbrev InvB (f : Nat → Int32) (M : Nat) : Prop :=
  (InvA f) ∧
  (M < 2 ^ 30) ∧
  (f 3 = nI (tN f)) ∧
  (tN f ≤ M) ∧
  (f 1 = nI (kN f)) ∧
  (kN f ≤ M) ∧
  (∀ j, j < 3 → ∃ t, t ≤ tN f ∧ f (9 + j) = nI t) ∧
  (∀ i j, i < 3 → j < 3 → f (9 + i) = f (9 + j) → f (9 + i) = 0 ∨ i = j) ∧
  (∀ r, 1 ≤ r → r ≤ rN f → RecOk f M r) ∧
  (∀ r r', 1 ≤ r → r < r' → r' ≤ rN f → ¬ rcf f r 0 = 0 → ¬ rcf f r' 1 = rcf f r 1) ∧
  (∀ j r, j < 3 → 1 ≤ r → r ≤ rN f → ¬ rcf f r 0 = 0 → ¬ f (9 + j) = rcf f r 1) ∧
  (∀ b, b < 2 → sbf f b 2 = 0 ∨ sbf f b 2 = nI 1)
theorem InvB.a {f : Nat → Int32} {M : Nat} (h : InvB f M) : InvA f := h.1
theorem InvB.lim {f : Nat → Int32} {M : Nat} (h : InvB f M) : M < 2 ^ 30 := h.2.1
theorem InvB.t3 {f : Nat → Int32} {M : Nat} (h : InvB f M) : f 3 = nI (tN f) := h.2.2.1
theorem InvB.tM {f : Nat → Int32} {M : Nat} (h : InvB f M) : tN f ≤ M := h.2.2.2.1
theorem InvB.k1 {f : Nat → Int32} {M : Nat} (h : InvB f M) : f 1 = nI (kN f) := h.2.2.2.2.1
theorem InvB.kM {f : Nat → Int32} {M : Nat} (h : InvB f M) : kN f ≤ M := h.2.2.2.2.2.1
theorem InvB.slot {f : Nat → Int32} {M : Nat} (h : InvB f M) : ∀ j, j < 3 → ∃ t, t ≤ tN f ∧ f (9 + j) = nI t := h.2.2.2.2.2.2.1
theorem InvB.apart {f : Nat → Int32} {M : Nat} (h : InvB f M) : ∀ i j, i < 3 → j < 3 → f (9 + i) = f (9 + j) → f (9 + i) = 0 ∨ i = j := h.2.2.2.2.2.2.2.1
theorem InvB.rec_ {f : Nat → Int32} {M : Nat} (h : InvB f M) : ∀ r, 1 ≤ r → r ≤ rN f → RecOk f M r := h.2.2.2.2.2.2.2.2.1
theorem InvB.after {f : Nat → Int32} {M : Nat} (h : InvB f M) : ∀ r r', 1 ≤ r → r < r' → r' ≤ rN f → ¬ rcf f r 0 = 0 → ¬ rcf f r' 1 = rcf f r 1 := h.2.2.2.2.2.2.2.2.2.1
theorem InvB.over {f : Nat → Int32} {M : Nat} (h : InvB f M) : ∀ j r, j < 3 → 1 ≤ r → r ≤ rN f → ¬ rcf f r 0 = 0 → ¬ f (9 + j) = rcf f r 1 := h.2.2.2.2.2.2.2.2.2.2.1
theorem InvB.ast {f : Nat → Int32} {M : Nat} (h : InvB f M) : ∀ b, b < 2 → sbf f b 2 = 0 ∨ sbf f b 2 = nI 1 := h.2.2.2.2.2.2.2.2.2.2.2
theorem RecOk.mono {f : Nat → Int32} {M M' r : Nat} (h : RecOk f M r) (hM : M ≤ M') : RecOk f M' r :=
  ⟨h.kind, h.by_, h.put, h.end_, by obtain ⟨t, h1, h2⟩ := h.tick; exact ⟨t, by omega, h2⟩⟩
theorem InvB.mono {f : Nat → Int32} {M M' : Nat} (h : InvB f M) (hM : M ≤ M') (hl : M' < 2 ^ 30) : InvB f M' :=
  ⟨h.a, hl, h.t3, by have := h.tM; omega, h.k1, by have := h.kM; omega, h.slot, h.apart, fun r h1 h2 => (h.rec_ r h1 h2).mono hM, h.after, h.over, h.ast⟩
theorem rcf_congr {f f' : Nat → Int32} (h : ∀ k, 218 ≤ k → f' k = f k) {r : Nat} (hr : 1 ≤ r) (w : Nat) : rcf f' r w = rcf f r w := h _ (by omega)
theorem RecOk.congr {f f' : Nat → Int32} {M r : Nat} (h : RecOk f M r) (he : ∀ w, w < 5 → rcf f' r w = rcf f r w) (ht : tN f ≤ tN f') : RecOk f' M r := by
  obtain ⟨h1, ⟨t, h2, h3, h4⟩, h5, h6, h7⟩ := h
  refine ⟨?_, ?_, ?_, ?_, ?_⟩
  · rw [he 0 (by decide)]; exact h1
  · rw [he 1 (by decide)]; exact ⟨t, h2, by omega, h4⟩
  · rw [he 0 (by decide), he 2 (by decide), he 3 (by decide)]; exact h5
  · rw [he 0 (by decide), he 2 (by decide), he 3 (by decide)]; exact h6
  · rw [he 4 (by decide)]; exact h7
/-- what doesn't touch counts, slots, records -/
theorem InvB.congr {f f' : Nat → Int32} {M : Nat} (h : InvB f M) (he : ∀ k, k = 0 ∨ k = 1 ∨ k = 3 ∨ (9 ≤ k ∧ k < 12) ∨ 218 ≤ k → f' k = f k) (hA : InvA f') (hs : ∀ b, b < 2 → sbf f' b 2 = 0 ∨ sbf f' b 2 = nI 1) : InvB f' M := by
  have e3 : tN f' = tN f := by unfold tN; rw [he 3 (by omega)]
  have e1 : kN f' = kN f := by unfold kN; rw [he 1 (by omega)]
  have e0 : rN f' = rN f := by unfold rN; rw [he 0 (by omega)]
  have er : ∀ r w, 1 ≤ r → rcf f' r w = rcf f r w := fun r w hr => he _ (by omega)
  have es : ∀ j, j < 3 → f' (9 + j) = f (9 + j) := fun j hj => he _ (by omega)
  refine ⟨hA, h.lim, ?_, ?_, ?_, ?_, ?_, ?_, ?_, ?_, ?_, hs⟩
  · rw [he 3 (by omega), e3]; exact h.t3
  · rw [e3]; exact h.tM
  · rw [he 1 (by omega), e1]; exact h.k1
  · rw [e1]; exact h.kM
  · intro j hj; rw [es j hj, e3]; exact h.slot j hj
  · intro i j hi hj; rw [es i hi, es j hj]; exact h.apart i j hi hj
  · intro r h1 h2; rw [e0] at h2; exact (h.rec_ r h1 h2).congr (fun w _ => er r w h1) (by omega)
  · intro r r' h1 h2 h3; rw [e0] at h3; rw [er r 0 h1, er r' 1 (by omega), er r 1 h1]; exact h.after r r' h1 h2 h3
  · intro j r hj h1 h2; rw [e0] at h2; rw [er r 0 h1, er r 1 h1, es j hj]; exact h.over j r hj h1 h2
theorem upd_s {f : Nat → Int32} {k : Nat} {x : Int32} : upd f k x k = x := if_pos rfl
theorem upd_n {f : Nat → Int32} {k j : Nat} {x : Int32} (h : j ≠ k) : upd f k x j = f j := if_neg h
theorem nI_inj {a b : Nat} (ha : a < 2 ^ 31) (hb : b < 2 ^ 31) (h : nI a = nI b) : a = b := (nI_eq ha hb).1 h
/-- a transaction is opened -/
theorem InvB_opened {f : Nat → Int32} {M j : Nat} (h : InvB f M) (hj : j < 3) (hM : M + 1 < 2 ^ 30) : InvB (upd (upd f 3 (f 3 + nI 1)) (9 + j) (f 3 + nI 1)) (M + 1) := by
  have hn : f 3 + nI 1 = nI (tN f + 1) := by rw [h.t3, nI_add]
  rw [hn]
  have tl : tN f + 1 < 2 ^ 30 := by have := h.tM; omega
  have en : ∀ k, k ≠ 3 → k ≠ 9 + j → upd (upd f 3 (nI (tN f + 1))) (9 + j) (nI (tN f + 1)) k = f k := fun k h1 h2 => by rw [upd_n h2, upd_n h1]
  have e3 : upd (upd f 3 (nI (tN f + 1))) (9 + j) (nI (tN f + 1)) 3 = nI (tN f + 1) := by rw [upd_n (by omega), upd_s]
  have ej : upd (upd f 3 (nI (tN f + 1))) (9 + j) (nI (tN f + 1)) (9 + j) = nI (tN f + 1) := upd_s
  generalize upd (upd f 3 (nI (tN f + 1))) (9 + j) (nI (tN f + 1)) = F at *
  have et : tN F = tN f + 1 := by show (F 3).toNatClampNeg = _; rw [e3, nI_clamp (by omega)]
  have ek : kN F = kN f := by unfold kN; rw [en 1 (by omega) (by omega)]
  have er0 : rN F = rN f := by unfold rN; rw [en 0 (by omega) (by omega)]
  have er : ∀ r w, 1 ≤ r → rcf F r w = rcf f r w := fun r w hr => en _ (by omega) (by omega)
  have hA : InvA F := InvA_congr (fun k hk => en k (by omega) (by omega)) h.a
  have lt : ∀ r t, 1 ≤ r → r ≤ rN f → rcf f r 1 = nI t → t < 2 ^ 31 → t ≤ tN f := fun r t h1 h2 h3 h4 => by
    obtain ⟨t', q1, q2, q3⟩ := (h.rec_ r h1 h2).by_
    have := nI_inj (by omega) h4 (q3.symm.trans h3)
    omega
  refine ⟨hA, hM, by rw [e3, et], by have := h.tM; omega, by rw [en 1 (by omega) (by omega), ek]; exact h.k1, by have := h.kM; omega, ?_, ?_, ?_, ?_, ?_, ?_⟩
  · intro i hi
    by_cases e : i = j
    · subst e; exact ⟨tN f + 1, by omega, ej⟩
    · obtain ⟨t, h1, h2⟩ := h.slot i hi
      exact ⟨t, by omega, by rw [en _ (by omega) (by omega)]; exact h2⟩
  · intro x y hx hy
    by_cases ex : x = j
    · by_cases ey : y = j
      · exact fun _ => Or.inr (by omega)
      · intro q
        obtain ⟨t, h1, h2⟩ := h.slot y hy
        rw [ex, ej, en _ (by omega) (by omega), h2] at q
        have := nI_inj (by omega) (by omega) q
        omega
    · by_cases ey : y = j
      · intro q
        obtain ⟨t, h1, h2⟩ := h.slot x hx
        rw [ey, ej, en _ (by omega) (by omega), h2] at q
        have := nI_inj (by omega) (by omega) q
        omega
      · rw [en (9 + x) (by omega) (by omega), en (9 + y) (by omega) (by omega)]; exact h.apart x y hx hy
  · intro r h1 h2
    rw [er0] at h2
    exact ((h.rec_ r h1 h2).congr (fun w _ => er r w h1) (by omega)).mono (by omega)
  · intro r r' h1 h2 h3
    rw [er0] at h3
    rw [er r 0 h1, er r' 1 (by omega), er r 1 h1]; exact h.after r r' h1 h2 h3
  · intro i r hi h1 h2
    rw [er0] at h2
    rw [er r 0 h1, er r 1 h1]
    by_cases e : i = j
    · intro _ q
      rw [e, ej] at q
      have := lt r (tN f + 1) h1 h2 q.symm (by omega)
      omega
    · rw [en _ (by omega) (by omega)]; exact h.over i r hi h1 h2
  · intro b hb
    have : sbf F b 2 = sbf f b 2 := en _ (by omega) (by omega)
    rw [this]; exact h.ast b hb
/-- a record is written -/
theorem InvB_wrF {f : Nat → Int32} {M j kind : Nat} {key v : Int32} (h : InvB f M) (hj : j < 3) (hn : rN f < 100) (h0 : ¬ f (9 + j) = 0) (hk : kind ≤ 2) (hp : kind = 0 → (∃ k, k ≤ 23 ∧ key = nI k) ∧ ∃ x, x ≤ 999 ∧ v = nI x) (he : kind ≠ 0 → key = cNF ∧ v = cNF) : InvB (wrF f kind j key v) M := by
  have hA := InvA_wrF (kind := kind) (j := j) (key := key) (v := v) (by omega) hn h.a
  obtain ⟨tj, hj1, hj2⟩ := h.slot j hj
  have tl := h.tM
  have ml := h.lim
  have e0 : wrF f kind j key v 0 = nI (rN f + 1) := by simp only [wrF]; rw [upd_n (by omega), upd_n (by omega), upd_n (by omega), upd_n (by omega), upd_n (by omega), upd_n (by omega), upd_s]
  have ej : wrF f kind j key v (9 + j) = if kind = 0 then f (9 + j) else 0 := by simp only [wrF]; rw [upd_s]
  have en : ∀ k, k ≠ 0 → k ≠ 9 + j → (k < 218 + 5 * rN f ∨ 223 + 5 * rN f ≤ k) → wrF f kind j key v k = f k := fun k h1 h2 h3 => by
    simp only [wrF]; rw [upd_n (by omega), upd_n (by omega), upd_n (by omega), upd_n (by omega), upd_n (by omega), upd_n (by omega), upd_n (by omega)]
  have n0 : rcf (wrF f kind j key v) (rN f + 1) 0 = nI kind := by
    simp only [rcf, wrF]; rw [upd_n (by omega), upd_n (by omega), upd_n (by omega), upd_n (by omega), upd_n (by omega)]; exact upd_s
  have n1 : rcf (wrF f kind j key v) (rN f + 1) 1 = f (9 + j) := by
    simp only [rcf, wrF]; rw [upd_n (by omega), upd_n (by omega), upd_n (by omega), upd_n (by omega)]; exact upd_s
  have n2 : rcf (wrF f kind j key v) (rN f + 1) 2 = key := by
    simp only [rcf, wrF]; rw [upd_n (by omega), upd_n (by omega), upd_n (by omega)]; exact upd_s
  have n3 : rcf (wrF f kind j key v) (rN f + 1) 3 = v := by
    simp only [rcf, wrF]; rw [upd_n (by omega), upd_n (by omega)]; exact upd_s
  have n4 : rcf (wrF f kind j key v) (rN f + 1) 4 = f 1 := by
    simp only [rcf, wrF]; rw [upd_n (by omega)]; exact upd_s
  generalize wrF f kind j key v = F at *
  have et : tN F = tN f := by unfold tN; rw [en 3 (by omega) (by omega) (by omega)]
  have ek : kN F = kN f := by unfold kN; rw [en 1 (by omega) (by omega) (by omega)]
  have er0 : rN F = rN f + 1 := by show (F 0).toNatClampNeg = _; rw [e0, nI_clamp (by omega)]
  have er : ∀ r w, 1 ≤ r → r ≤ rN f → w < 5 → rcf F r w = rcf f r w := fun r w h1 h2 h3 => en _ (by omega) (by omega) (by omega)
  have hjt : 1 ≤ tj := by
    rcases Nat.eq_zero_or_pos tj with e | e
    · subst e; exact absurd hj2 h0
    · exact e
  have k0 : nI kind = 0 ↔ kind = 0 := ⟨fun q => nI_inj (b := 0) (by omega) (by omega) q, fun q => by rw [q]; rfl⟩
  have sl : ∀ i, i < 3 → F (9 + i) = f (9 + i) ∨ (i = j ∧ kind ≠ 0 ∧ F (9 + i) = 0) := fun i hi => by
    by_cases e : i = j
    · by_cases q : kind = 0
      · left; rw [e, ej, if_pos q]
      · right; exact ⟨e, q, by rw [e, ej, if_neg q]⟩
    · left; exact en _ (by omega) (by omega) (by omega)
  have rz : ∀ r, 1 ≤ r → r ≤ rN f → ¬ (0 : Int32) = rcf f r 1 := fun r h1 h2 q => by
    obtain ⟨t, q1, q2, q3⟩ := (h.rec_ r h1 h2).by_
    have : (0 : Int32) = nI t := q.trans q3
    have := nI_inj (a := 0) (b := t) (by omega) (by omega) this
    omega
  refine ⟨hA, h.lim, by rw [en 3 (by omega) (by omega) (by omega), et]; exact h.t3, by omega, by rw [en 1 (by omega) (by omega) (by omega), ek]; exact h.k1, by rw [ek]; exact h.kM, ?_, ?_, ?_, ?_, ?_, ?_⟩
  · intro i hi
    rcases sl i hi with e | ⟨e, -, e2⟩
    · obtain ⟨t, h1, h2⟩ := h.slot i hi; exact ⟨t, by omega, by rw [e]; exact h2⟩
    · exact ⟨0, by omega, e2⟩
  · intro x y hx hy q
    rcases sl x hx with e | ⟨e, -, e2⟩
    · rcases sl y hy with e' | ⟨e', -, e2'⟩
      · rw [e, e'] at q; rw [e]; exact h.apart x y hx hy q
      · left; rw [q, e2']
    · left; exact e2
  · intro r h1 h2
    rw [er0] at h2
    by_cases e : r = rN f + 1
    · subst e
      refine ⟨⟨kind, hk, n0⟩, ⟨tj, hjt, by omega, by rw [n1, hj2]⟩, fun q => ?_, fun q => ?_, ⟨kN f, h.kM, by rw [n4]; exact h.k1⟩⟩
      · rw [n0] at q; rw [n2, n3]; exact hp (k0.1 q)
      · rw [n0] at q; rw [n2, n3]; exact he (fun z => q (k0.2 z))
    · exact (h.rec_ r h1 (by omega)).congr (fun w hw => er r w h1 (by omega) hw) (by omega)
  · intro r r' h1 h2 h3
    rw [er0] at h3
    rw [er r 0 h1 (by omega) (by omega), er r 1 h1 (by omega) (by omega)]
    by_cases e : r' = rN f + 1
    · subst e
      rw [n1]
      exact h.over j r hj h1 (by omega)
    · rw [er r' 1 (by omega) (by omega) (by omega)]; exact h.after r r' h1 h2 (by omega)
  · intro i r hi h1 h2 q1 q2
    rw [er0] at h2
    by_cases e : r = rN f + 1
    · subst e
      rw [n0] at q1
      rw [n1] at q2
      have hk0 : kind ≠ 0 := fun z => q1 (k0.2 z)
      rcases sl i hi with e | ⟨e, -, e2⟩
      · rw [e] at q2
        rcases h.apart i j hi hj q2 with z | z
        · rw [z] at q2; exact h0 q2.symm
        · subst z
          rw [ej, if_neg hk0] at e
          exact h0 e.symm
      · rw [e2] at q2; exact h0 q2.symm
    · rw [er r 0 h1 (by omega) (by omega)] at q1
      rw [er r 1 h1 (by omega) (by omega)] at q2
      rcases sl i hi with e' | ⟨-, -, e2⟩
      · rw [e'] at q2; exact h.over i r hi h1 (by omega) q1 q2
      · rw [e2] at q2; exact rz r h1 (by omega) q2
  · intro b hb
    have : sbf F b 2 = sbf f b 2 := en _ (by omega) (by omega) (by omega)
    rw [this]; exact h.ast b hb
theorem fillG_lo {f : Nat → Int32} {b from_ k : Nat} (h : k < 18) : fillG f b from_ k = f k := by simp only [fillG]; rw [if_neg (by omega)]
theorem fillG_hi {f : Nat → Int32} {b from_ k : Nat} (hb : b < 2) (h : 218 ≤ k) : fillG f b from_ k = f k := by simp only [fillG]; rw [if_neg (by omega)]
theorem InvB_fillG {f : Nat → Int32} {M b from_ : Nat} (h : InvB f M) (hb : b < 2) : InvB (fillG f b from_) M := by
  refine h.congr (fun k hk => ?_) (InvA_congr (fun k hk => fillG_lo (by omega)) h.a) (fun c hc => ?_)
  · rcases Nat.lt_or_ge k 18 with q | q
    · exact fillG_lo q
    · exact fillG_hi hb (by omega)
  · have : sbf (fillG f b from_) c 2 = sbf f c 2 := fillG_lo (by omega)
    rw [this]; exact h.ast c hc
theorem InvB_loseF {f : Nat → Int32} {M b r : Nat} (h : InvB f M) (hb : b < 2) (h1 : 1 ≤ r) (h2 : r ≤ 100) : InvB (loseF f b r) M := by
  have en : ∀ k, k < 18 ∨ 218 ≤ k → k ≠ 5 → loseF f b r k = f k := fun k hk h5 => by simp only [loseF]; rw [upd_n h5, upd_n (by omega)]
  refine h.congr (fun k hk => en k (by omega) (by omega)) (InvA_congr (fun k hk => en k (by omega) (by omega)) h.a) (fun c hc => ?_)
  have : sbf (loseF f b r) c 2 = sbf f c 2 := en _ (by omega) (by omega)
  rw [this]; exact h.ast c hc
theorem laysF_0 {f : Nat → Int32} {b p : Nat} {a : Int32} (hb : b < 2) : sbf (laysF f b p a) b 0 = nI p ∧ sbf (laysF f b p a) b 1 = nI p ∧ sbf (laysF f b p a) b 2 = a := by
  refine ⟨?_, ?_, ?_⟩
  · show fillG _ _ _ _ = _; rw [fillG_lo (by omega), upd_n (by omega), upd_n (by omega), upd_s]
  · show fillG _ _ _ _ = _; rw [fillG_lo (by omega), upd_n (by omega), upd_s]
  · show fillG _ _ _ _ = _; rw [fillG_lo (by omega), upd_s]
theorem laysF_n {f : Nat → Int32} {b p k : Nat} {a : Int32} (hb : b < 2) (hk : k < 18 ∨ 218 ≤ k) (h : k < 12 + 3 * b ∨ 15 + 3 * b ≤ k) : laysF f b p a k = f k := by
  show fillG _ _ _ _ = _
  rcases hk with q | q
  · rw [fillG_lo q, upd_n (by omega), upd_n (by omega), upd_n (by omega)]
  · rw [fillG_hi hb q, upd_n (by omega), upd_n (by omega), upd_n (by omega)]
theorem InvA_laysF {f : Nat → Int32} {b p : Nat} {a : Int32} (h : InvA f) (hb : b < 2) (hp : p ≤ rN f) : InvA (laysF f b p a) := by
  obtain ⟨h1, h2, h3, h4, h5⟩ := h
  obtain ⟨e0, e1, -⟩ := laysF_0 (f := f) (p := p) (a := a) hb
  refine InvA_mk (rN f) (rtN f) (fun c => if c = b then p else rcN f c) (fun c => if c = b then p else apN f c) ?_ h2 (fun c hc => ?_) ?_ h5
  · rw [laysF_n hb (by omega) (by omega)]; exact h1
  · by_cases e : c = b
    · subst e
      rw [e0, e1, if_pos rfl, if_pos rfl]
      exact ⟨rfl, rfl, Nat.le_refl _, hp⟩
    · rw [if_neg e, if_neg e]
      have q0 : sbf (laysF f b p a) c 0 = sbf f c 0 := laysF_n hb (by omega) (by omega)
      have q1 : sbf (laysF f b p a) c 1 = sbf f c 1 := laysF_n hb (by omega) (by omega)
      rw [q0, q1]; exact h3 c hc
  · rw [laysF_n hb (by omega) (by omega)]; exact h4
theorem InvB_laysF {f : Nat → Int32} {M b p : Nat} {a : Int32} (h : InvB f M) (hb : b < 2) (hp : p ≤ rN f) (ha : a = 0 ∨ a = nI 1) : InvB (laysF f b p a) M := by
  refine h.congr (fun k hk => laysF_n hb (by omega) (by omega)) (InvA_laysF h.a hb hp) (fun c hc => ?_)
  by_cases e : c = b
  · subst e; rw [(laysF_0 hb).2.2]; exact ha
  · have : sbf (laysF f b p a) c 2 = sbf f c 2 := laysF_n hb (by omega) (by omega)
    rw [this]; exact h.ast c hc
/-- a tick -/
theorem InvB_tickU {f : Nat → Int32} {M : Nat} (h : InvB f M) (hM : M + 1 < 2 ^ 30) : InvB (tickU f) (M + 1) := by
  have hn : f 1 + nI 1 = nI (kN f + 1) := by rw [h.k1, nI_add]
  have en : ∀ k, k ≠ 1 → tickU f k = f k := fun k hk => upd_n hk
  have kl := h.kM
  have e1 : tickU f 1 = nI (kN f + 1) := by show upd _ _ _ _ = _; rw [upd_s, hn]
  have ek : kN (tickU f) = kN f + 1 := by show (tickU f 1).toNatClampNeg = _; rw [e1, nI_clamp (by omega)]
  have hA := InvA_tickU h.a
  generalize tickU f = F at *
  have et : tN F = tN f := by unfold tN; rw [en 3 (by omega)]
  have er0 : rN F = rN f := by unfold rN; rw [en 0 (by omega)]
  have er : ∀ r w, rcf F r w = rcf f r w := fun r w => en _ (by omega)
  have es : ∀ j, F (9 + j) = f (9 + j) := fun j => en _ (by omega)
  have tl := h.tM
  refine ⟨hA, hM, by rw [en 3 (by omega), et]; exact h.t3, by omega, by rw [e1, ek], by omega, fun j hj => ?_, fun i j hi hj => ?_, fun r h1 h2 => ?_, fun r r' h1 h2 h3 => ?_, fun j r hj h1 h2 => ?_, fun b hb => ?_⟩
  · rw [es, et]; exact h.slot j hj
  · rw [es, es]; exact h.apart i j hi hj
  · rw [er0] at h2; exact ((h.rec_ r h1 h2).congr (fun w _ => er r w) (by omega)).mono (by omega)
  · rw [er0] at h3; rw [er, er, er]; exact h.after r r' h1 h2 h3
  · rw [er0] at h2; rw [er, er, es]; exact h.over j r hj h1 h2
  · have : sbf F b 2 = sbf f b 2 := en _ (by omega)
    rw [this]; exact h.ast b hb
theorem InvB_tickB {f : Nat → Int32} {M b : Nat} (h : InvB f M) (hb : b < 2) : InvB (tickB f b) M := by
  have en : ∀ k, k ≠ 12 + 3 * b + 1 → tickB f b k = f k := fun k hk => upd_n hk
  refine h.congr (fun k hk => en k (by omega)) (InvA_tickB hb h.a) (fun c hc => ?_)
  have : sbf (tickB f b) c 2 = sbf f c 2 := en _ (by omega)
  rw [this]; exact h.ast c hc
theorem InvB_tickK {f : Nat → Int32} {M : Nat} (h : InvB f M) (i : Nat) (hM : M + i < 2 ^ 30) : InvB (tickK f i) (M + i) := by
  induction i with
  | zero => exact h
  | succ i ih => exact InvB_tickB (InvB_tickB (InvB_tickU (ih (by omega)) hM) (b := 0) (by omega)) (b := 1) (by omega)
theorem InvB_upd {f : Nat → Int32} {M k : Nat} {x : Int32} (h : InvB f M) (hk : k = 2 ∨ k = 4 ∨ k = 5 ∨ k = 6 ∨ k = 8) : InvB (upd f k x) M := by
  refine h.congr (fun j hj => upd_n (by omega)) (InvA_congr (fun j hj => upd_n (by omega)) h.a) (fun b hb => ?_)
  have : sbf (upd f k x) b 2 = sbf f b 2 := upd_n (by omega)
  rw [this]; exact h.ast b hb
theorem InvB_rate {f : Nat → Int32} {M v : Nat} (h : InvB f M) (hv : v ≤ 20) : InvB (upd f 7 (nI v)) M := by
  refine h.congr (fun j hj => upd_n (by omega)) ?_ (fun b hb => ?_)
  · obtain ⟨h1, h2, h3, h4, h5⟩ := h.a
    refine InvA_mk (rN f) v (rcN f) (apN f) (by rw [upd_n (by omega)]; exact h1) h2 (fun c hc => ?_) upd_s hv
    have q0 : sbf (upd f 7 (nI v)) c 0 = sbf f c 0 := upd_n (by omega)
    have q1 : sbf (upd f 7 (nI v)) c 1 = sbf f c 1 := upd_n (by omega)
    rw [q0, q1]; exact h3 c hc
  · have : sbf (upd f 7 (nI v)) b 2 = sbf f b 2 := upd_n (by omega)
    rw [this]; exact h.ast b hb
/-- the log is cut, the slots are given back -/
theorem InvB_cut {f F : Nat → Int32} {M p : Nat} (h : InvB f M) (hp : p ≤ rN f) (h0 : F 0 = nI p) (hs : ∀ j, j < 3 → F (9 + j) = 0) (he : ∀ k, k = 1 ∨ k = 3 ∨ 218 ≤ k → F k = f k) (hA : InvA F) (ha : ∀ b, b < 2 → sbf F b 2 = 0 ∨ sbf F b 2 = nI 1) : InvB F M := by
  have hn := h.a.2.1
  have e3 : tN F = tN f := by unfold tN; rw [he 3 (by omega)]
  have e1 : kN F = kN f := by unfold kN; rw [he 1 (by omega)]
  have e0 : rN F = p := by unfold rN; rw [h0, nI_clamp (by omega)]
  have er : ∀ r w, 1 ≤ r → rcf F r w = rcf f r w := fun r w hr => he _ (by omega)
  refine ⟨hA, h.lim, by rw [he 3 (by omega), e3]; exact h.t3, by rw [e3]; exact h.tM, by rw [he 1 (by omega), e1]; exact h.k1, by rw [e1]; exact h.kM, fun j hj => ⟨0, Nat.zero_le _, hs j hj⟩, fun i j hi hj _ => Or.inl (hs i hi), fun r h1 h2 => ?_, fun r r' h1 h2 h3 => ?_, fun j r hj h1 h2 q1 q2 => ?_, ha⟩
  · rw [e0] at h2; exact (h.rec_ r h1 (by omega)).congr (fun w _ => er r w h1) (by omega)
  · rw [e0] at h3; rw [er r 0 h1, er r' 1 (by omega), er r 1 h1]; exact h.after r r' h1 h2 (by omega)
  · rw [e0] at h2
    rw [hs j hj, er r 1 h1] at q2
    obtain ⟨t, r1, r2, r3⟩ := (h.rec_ r h1 (by omega)).by_
    have tl := h.tM
    have ml := h.lim
    have := nI_inj (a := 0) (b := t) (by omega) (by omega) (q2.trans r3)
    omega
theorem InvA_ap {f : Nat → Int32} (h : InvA f) {b : Nat} (hb : b < 2) : sbf f b 0 = nI (rcN f b) ∧ sbf f b 1 = nI (apN f b) ∧ apN f b ≤ rcN f b ∧ rcN f b ≤ rN f := h.2.2.1 b hb
/-! promote, told place by place -/
theorem proA_k {f : Nat → Int32} {b k : Nat} (hb : b < 2) (hk : k < 18 ∨ 218 ≤ k) (h : k ≠ 0 ∧ k ≠ 2 ∧ k ≠ 4 ∧ k ≠ 9 ∧ k ≠ 10 ∧ k ≠ 11) (h2 : k < 12 + 3 * b ∨ 15 + 3 * b ≤ k) : proA f b k = f k := by
  show laysF _ _ _ _ _ = _
  rw [laysF_n hb hk h2, upd_n (by omega), upd_n (by omega), upd_n (by omega), upd_n (by omega), upd_n (by omega), upd_n (by omega)]
theorem proA_0 {f : Nat → Int32} {b : Nat} (hb : b < 2) : proA f b 0 = nI (apN f b) ∧ (∀ j, j < 3 → proA f b (9 + j) = 0) ∧ proA f b 2 = f 2 + nI 1 ∧ proA f b 4 = f 4 + nI (lost f b) := by
  refine ⟨?_, fun j hj => ?_, ?_, ?_⟩
  · show laysF _ _ _ _ _ = _
    rw [laysF_n hb (by omega) (by omega), upd_n (by omega), upd_n (by omega), upd_n (by omega), upd_n (by omega), upd_n (by omega), upd_s]
  · show laysF _ _ _ _ _ = _
    rw [laysF_n hb (by omega) (by omega)]
    rcases (show j = 0 ∨ j = 1 ∨ j = 2 by omega) with e | e | e
    · subst e; rw [upd_n (by omega), upd_n (by omega)]; exact upd_s
    · subst e; rw [upd_n (by omega)]; exact upd_s
    · subst e; exact upd_s
  · show laysF _ _ _ _ _ = _
    rw [laysF_n hb (by omega) (by omega), upd_n (by omega), upd_n (by omega), upd_n (by omega), upd_s]
  · show laysF _ _ _ _ _ = _
    rw [laysF_n hb (by omega) (by omega), upd_n (by omega), upd_n (by omega), upd_n (by omega), upd_n (by omega), upd_s]
theorem proB_k {F : Nat → Int32} {o p k : Nat} (ho : o < 2) (hk : k < 18 ∨ 218 ≤ k) (h : k ≠ 12 + 3 * o) : proB F o p k = F k := by
  show fillG _ _ _ _ = _
  rcases hk with q | q
  · rw [fillG_lo q, upd_n (by omega)]
  · rw [fillG_hi ho q, upd_n (by omega)]
theorem proB_0 {F : Nat → Int32} {o p : Nat} (ho : o < 2) : proB F o p (12 + 3 * o) = nI (if rcN F o ≤ p then rcN F o else p) := by
  show fillG _ _ _ _ = _
  rw [fillG_lo (by omega)]; exact upd_s
theorem proC_k {F : Nat → Int32} {o p k : Nat} (h : k ≠ 12 + 3 * o + 1) (h2 : k ≠ 12 + 3 * o + 2) : proC F o p k = F k := by
  unfold proC; split
  · rfl
  · rw [upd_n (by omega), upd_n (by omega)]
theorem proF_k {f : Nat → Int32} {b k : Nat} (hb : b < 2) (hk : k < 12 ∨ 218 ≤ k) (h : k ≠ 0 ∧ k ≠ 2 ∧ k ≠ 4 ∧ k ≠ 9 ∧ k ≠ 10 ∧ k ≠ 11) : proF f b k = f k := by
  show proC _ _ _ _ = _
  rw [proC_k (by omega) (by omega), proB_k (by omega) (by omega) (by omega), proA_k hb (by omega) h (by omega)]
theorem proF_0 {f : Nat → Int32} {b : Nat} (hb : b < 2) : proF f b 0 = nI (apN f b) ∧ (∀ j, j < 3 → proF f b (9 + j) = 0) ∧ proF f b 2 = f 2 + nI 1 ∧ proF f b 4 = f 4 + nI (lost f b) := by
  have e : ∀ k, k < 12 → proF f b k = proA f b k := fun k hk => by
    show proC _ _ _ _ = _
    rw [proC_k (by omega) (by omega), proB_k (by omega) (by omega) (by omega)]
  obtain ⟨h1, h2, h3, h4⟩ := proA_0 (f := f) hb
  exact ⟨(e 0 (by omega)).trans h1, fun j hj => (e _ (by omega)).trans (h2 j hj), (e 2 (by omega)).trans h3, (e 4 (by omega)).trans h4⟩
theorem proF_b {f : Nat → Int32} {b : Nat} (hb : b < 2) : sbf (proF f b) b 0 = nI (apN f b) ∧ sbf (proF f b) b 1 = nI (apN f b) ∧ sbf (proF f b) b 2 = nI (if apN f b < rN f then 1 else 0) := by
  have e : ∀ w, w < 3 → sbf (proF f b) b w = sbf (proA f b) b w := fun w hw => by
    show proC _ _ _ _ = _
    rw [proC_k (by omega) (by omega), proB_k (by omega) (by omega) (by omega)]; rfl
  rw [e 0 (by omega), e 1 (by omega), e 2 (by omega)]
  exact laysF_0 hb
theorem proF_o {f : Nat → Int32} {b o : Nat} (h : InvA f) (hb : b < 2) (ho : o = 1 - b) : sbf (proF f b) o 0 = nI (if rcN f o ≤ apN f b then rcN f o else apN f b) ∧ sbf (proF f b) o 1 = nI (if apN f o ≤ apN f b then apN f o else apN f b) ∧ sbf (proF f b) o 2 = (if apN f o ≤ apN f b then sbf f o 2 else nI 1) := by
  subst ho
  obtain ⟨a1, a2, a3, a4⟩ := InvA_ap h (b := 1 - b) (by omega)
  refine ⟨?_, ?_, ?_⟩
  · show proC _ _ _ _ = _
    rw [proC_k (by omega) (by omega), Nat.add_zero, proB_0 (by omega), rcN_proA hb]
  · show proC _ _ _ _ = _
    unfold proC
    rw [apN_proB hb]
    by_cases c : apN f (1 - b) ≤ apN f b
    · rw [if_pos c, if_pos c, proB_k (by omega) (by omega) (by omega), proA_k hb (by omega) (by omega) (by omega)]; exact a2
    · rw [if_neg c, if_neg c, upd_n (by omega)]; exact upd_s
  · show proC _ _ _ _ = _
    unfold proC
    rw [apN_proB hb]
    by_cases c : apN f (1 - b) ≤ apN f b
    · rw [if_pos c, if_pos c, proB_k (by omega) (by omega) (by omega), proA_k hb (by omega) (by omega) (by omega)]; rfl
    · rw [if_neg c, if_neg c]; exact upd_s
theorem InvA_pro {f : Nat → Int32} {b : Nat} (h : InvA f) (hb : b < 2) : InvA (proF f b) := by
  obtain ⟨p1, p2, p3, p4⟩ := InvA_ap h hb
  obtain ⟨q1, q2, q3, q4⟩ := InvA_ap h (b := 1 - b) (by omega)
  obtain ⟨e0, e1, -⟩ := proF_b (f := f) hb
  obtain ⟨g0, g1, -⟩ := proF_o h hb rfl
  have hn := h.2.1
  refine InvA_mk (apN f b) (rtN f) (fun c => if c = b then apN f b else if rcN f (1 - b) ≤ apN f b then rcN f (1 - b) else apN f b) (fun c => if c = b then apN f b else if apN f (1 - b) ≤ apN f b then apN f (1 - b) else apN f b) (proF_0 hb).1 (by omega) (fun c hc => ?_) (by rw [proF_k hb (by omega) (by omega)]; exact h.2.2.2.1) h.2.2.2.2
  by_cases e : c = b
  · subst e
    rw [if_pos rfl, if_pos rfl]
    exact ⟨e0, e1, Nat.le_refl _, Nat.le_refl _⟩
  · have ec : c = 1 - b := by omega
    rw [if_neg e, if_neg e, ec]
    refine ⟨g0, g1, ?_, ?_⟩
    · split <;> split <;> omega
    · split <;> omega
theorem InvB_pro {f : Nat → Int32} {M b : Nat} (h : InvB f M) (hb : b < 2) : InvB (proF f b) M := by
  obtain ⟨p1, p2, p3, p4⟩ := InvA_ap h.a hb
  refine InvB_cut h (p := apN f b) (by omega) (proF_0 hb).1 (proF_0 hb).2.1 (fun k hk => proF_k hb (by omega) (by omega)) (InvA_pro h.a hb) (fun c hc => ?_)
  by_cases e : c = b
  · subst e
    rw [(proF_b hb).2.2]
    split
    · exact Or.inr rfl
    · exact Or.inl rfl
  · have ec : c = 1 - b := by omega
    rw [(proF_o h.a hb ec).2.2]
    split
    · exact h.ast c hc
    · exact Or.inr rfl
/-! the orders keep it -/
theorem InvB_oOpen {f : Nat → Int32} {M : Nat} {sl : Int32} (h : InvB f M) (hM : M + 1 < 2 ^ 30) : InvB (oOpen f sl).2.2 (M + 1) := by
  unfold oOpen
  by_cases c : isS sl
  · rw [if_pos c]
    by_cases c2 : f (9 + sl.toNatClampNeg) ≤ 0
    · rw [if_pos c2]
      obtain ⟨j, hj, rfl⟩ := zr_of (N := 2) c (by decide)
      show InvB (upd _ _ _) _
      rw [nI_clamp (by omega)]
      exact InvB_opened h (by omega) hM
    · rw [if_neg c2]; exact h.mono (by omega) hM
  · rw [if_neg c]; exact h.mono (by omega) hM
theorem InvB_oWr {f : Nat → Int32} {M kind : Nat} {sl key v : Int32} (h : InvB f M) (hk : kind ≤ 2) (hp : kind = 0 → (∃ k, k ≤ 23 ∧ key = nI k) ∧ ∃ x, x ≤ 999 ∧ v = nI x) (he : kind ≠ 0 → key = cNF ∧ v = cNF) : InvB (oWr f kind sl key v).2.2 M := by
  unfold oWr
  by_cases c : 0 ≤ aBar f sl
  · rw [if_pos c]
    obtain ⟨q1, q2, q3⟩ := aBar_ok c
    obtain ⟨j, hj, rfl⟩ := zr_of (N := 2) q1 (by decide)
    have hn9 : rN f < 100 := by
      rcases Nat.lt_or_ge (rN f) 100 with q | q
      · exact q
      · exact absurd (by rw [h.a.1, show rN f = 100 by have := h.a.2.1; omega]) q3
    show InvB (wrF f kind (nI j).toNatClampNeg key v) M
    rw [nI_clamp (by omega)] at q2 ⊢
    exact InvB_wrF h (by omega) hn9 q2 hk hp he
  · rw [if_neg c]; exact h
theorem InvB_oPut {f : Nat → Int32} {M : Nat} {sl key v : Int32} (h : InvB f M) : InvB (oPut f sl key v).2.2 M := by
  unfold oPut
  by_cases c : isK key
  · rw [if_pos c]
    by_cases c2 : nI 0 ≤ v ∧ v ≤ nI 999
    · rw [if_pos c2]
      obtain ⟨k, hk, rfl⟩ := zr_of (N := 23) c (by decide)
      obtain ⟨x, hx, rfl⟩ := zr_of (N := 999) c2 (by decide)
      exact InvB_oWr h (by omega) (fun _ => ⟨⟨k, hk, rfl⟩, x, hx, rfl⟩) (fun q => absurd rfl q)
    · rw [if_neg c2]; exact h
  · rw [if_neg c]; exact h
theorem InvB_oEnd {f : Nat → Int32} {M kind : Nat} {sl : Int32} (h : InvB f M) (h1 : 1 ≤ kind) (h2 : kind ≤ 2) : InvB (oWr f kind sl cNF cNF).2.2 M :=
  InvB_oWr h h2 (fun q => absurd q (by omega)) (fun _ => ⟨rfl, rfl⟩)
theorem InvB_oShip {f : Nat → Int32} {M : Nat} {sb k : Int32} (h : InvB f M) : InvB (oShip f sb k).2.2 M := by
  have hA := InvA_ship (sb := sb) (k := k) h.a
  have key : ∀ (b : Nat) (x : Int32), b < 2 → InvA (upd f (12 + 3 * b + 0) x) → InvB (upd f (12 + 3 * b + 0) x) M := fun b x hb hA => by
    refine h.congr (fun j hj => upd_n (by omega)) hA (fun c hc => ?_)
    have : sbf (upd f (12 + 3 * b + 0) x) c 2 = sbf f c 2 := upd_n (by omega)
    rw [this]; exact h.ast c hc
  unfold oShip at hA ⊢
  by_cases c : isB sb
  · rw [if_pos c] at hA ⊢
    by_cases c2 : nI 1 ≤ k ∧ k ≤ nI 20
    · rw [if_pos c2] at hA ⊢
      by_cases c3 : sbf f sb.toNatClampNeg 2 = nI 1
      · rw [if_pos c3]; exact h
      · rw [if_neg c3] at hA ⊢
        obtain ⟨b, hb, rfl⟩ := zr_of (N := 1) c (by decide)
        rw [nI_clamp (show b < 2 ^ 31 by omega)] at hA ⊢
        exact key b _ (by omega) hA
    · rw [if_neg c2]; exact h
  · rw [if_neg c]; exact h
theorem InvB_oTick {f : Nat → Int32} {M : Nat} {t : Int32} (h : InvB f M) (hM : M + 99 < 2 ^ 30) : InvB (oTick f t).2.2 (M + 99) := by
  unfold oTick
  by_cases c : nI 1 ≤ t ∧ t ≤ nI 99
  · rw [if_pos c]
    obtain ⟨k, hk, rfl⟩ := zr_of (N := 99) ⟨Int32.le_trans (nI_le (by omega) (by omega)) c.1, c.2⟩ (by decide)
    show InvB (upd _ _ _) _
    rw [nI_clamp (by omega)]
    exact (InvB_upd (InvB_tickK h k (by omega)) (by omega)).mono (by omega) hM
  · rw [if_neg c]; exact h.mono (by omega) hM
theorem InvB_call {f : Nat → Int32} {M : Nat} {o : Int32} {td : Nat → Int32} (h : InvB f M) (hM : M + 99 < 2 ^ 30) : InvB (opCall f o td).2.2 (M + 99) := by
  unfold opCall
  split
  · exact (InvB_oEnd h (by omega) (by omega)).mono (by omega) hM
  · split
    · exact (InvB_oEnd h (by omega) (by omega)).mono (by omega) hM
    · split
      · exact (InvB_oOpen h (by omega)).mono (by omega) hM
      · split
        · exact (InvB_oPut h).mono (by omega) hM
        · split
          · exact (InvB_oShip h).mono (by omega) hM
          · exact InvB_oTick h hM
theorem InvB_plRun {tx : Nat → Int32} {ty : Nat} (k : Nat) : ∀ (x : PS) (M : Nat), InvB x.f M → M + 99 * k < 2 ^ 30 → InvB (plRun tx ty k x).f (M + 99 * k) := by
  induction k with
  | zero => intro x M h _; exact h
  | succ k ih =>
    intro x M h hM
    by_cases c : x.sp < ty ∧ x.ok = true
    · have e1 : plRun tx ty (k + 1) x = plRun tx ty k (plStep tx ty x) := if_pos c
      rw [e1]
      have := ih (plStep tx ty x) (M + 99) (by
        unfold plStep; split
        · exact InvB_call h (by omega)
        · exact h.mono (by omega) (by omega)) (by omega)
      exact this.mono (by omega) hM
    · rw [plRun_stop c]; exact h.mono (by omega) hM
theorem InvB_oLose {f : Nat → Int32} {M : Nat} {sb r : Int32} (h : InvB f M) : InvB (oLose f sb r).2.2 M := by
  unfold oLose
  split
  · next c =>
    split
    · next c1 =>
      split
      · exact h
      · split
        · next c2 =>
          split
          · exact h
          · split
            · exact h
            · obtain ⟨b, hb, rfl⟩ := zr_of (N := 1) c (by decide)
              rw [nI_clamp (show b < 2 ^ 31 by omega)] at c2 ⊢
              obtain ⟨a1, a2, a3, a4⟩ := InvA_ap h.a (b := b) (by omega)
              have hn := h.a.2.1
              rw [a1] at c2
              obtain ⟨x, hx, rfl⟩ := zr_of (N := rcN f b) ⟨Int32.le_trans (nI_le (by omega) (by omega)) c1, c2⟩ (by omega)
              have h1 := (nI_leI (by omega) (by omega)).1 c1
              show InvB (loseF _ _ _) M
              rw [nI_clamp (by omega)]
              exact InvB_loseF h (by omega) h1 (by omega)
        · exact h
    · exact h
  · exact h
theorem InvB_oResend {f : Nat → Int32} {M : Nat} {sb : Int32} (h : InvB f M) : InvB (oResend f sb).2.2 M := by
  unfold oResend
  split
  · next c =>
    split
    · exact h
    · obtain ⟨b, hb, rfl⟩ := zr_of (N := 1) c (by decide)
      show InvB (fillG _ _ _) M
      rw [nI_clamp (show b < 2 ^ 31 by omega)]
      exact InvB_fillG h (by omega)
  · exact h
theorem InvB_oPromote {f : Nat → Int32} {M : Nat} {sb : Int32} (h : InvB f M) : InvB (oPromote f sb).2.2 M := by
  unfold oPromote
  split
  · next c =>
    split
    · exact h
    · obtain ⟨b, hb, rfl⟩ := zr_of (N := 1) c (by decide)
      show InvB (proF _ _) M
      rw [nI_clamp (show b < 2 ^ 31 by omega)]
      exact InvB_pro h (by omega)
  · exact h
theorem InvB_oRebuild {f : Nat → Int32} {M : Nat} {sb : Int32} (h : InvB f M) : InvB (oRebuild f sb).2.2 M := by
  unfold oRebuild
  split
  · next c =>
    obtain ⟨b, hb, rfl⟩ := zr_of (N := 1) c (by decide)
    show InvB (laysF _ _ _ _) M
    rw [nI_clamp (show b < 2 ^ 31 by omega)]
    exact InvB_laysF h (by omega) (Nat.le_refl _) (Or.inl rfl)
  · exact h
theorem InvB_oSet {f : Nat → Int32} {M : Nat} {w v : Int32} (h : InvB f M) : InvB (oSet f w v).2.2 M := by
  unfold oSet
  split
  · next c =>
    split
    · next c2 =>
      obtain ⟨j, hj, rfl⟩ := zr_of (N := 1) c (by decide)
      obtain ⟨x, hx, rfl⟩ := zr_of (N := 20) ⟨Int32.le_trans (by rw [pk_sub (by omega)]; exact nI_le (by omega) (by omega)) c2.1, c2.2⟩ (by decide)
      show InvB (upd _ _ _) M
      rw [nI_clamp (show j < 2 ^ 31 by omega)]
      rcases (show j = 0 ∨ j = 1 by omega) with e | e
      · subst e; exact InvB_rate h hx
      · subst e; exact InvB_upd h (by omega)
    · exact h
  · exact h
/-! what the component reads is what the reference reads -/
theorem lastPut_rec {f : Nat → Int32} {t key : Int32} {n : Nat} (h : lastPut f t key n ≠ 0) : 1 ≤ lastPut f t key n ∧ rcf f (lastPut f t key n) 0 = 0 ∧ rcf f (lastPut f t key n) 1 = t ∧ rcf f (lastPut f t key n) 2 = key := by
  induction n with
  | zero => exact absurd rfl h
  | succ n ih =>
    by_cases c : rcf f (n + 1) 0 = 0 ∧ rcf f (n + 1) 1 = t ∧ rcf f (n + 1) 2 = key
    · rw [lastPut_t c]; exact ⟨by omega, c⟩
    · rw [lastPut_f c] at h ⊢; exact ih h
theorem pvF_none {f : Nat → Int32} {M n : Nat} (h : ∀ r, 1 ≤ r → r ≤ n → RecOk f M r) (t key : Int32) : pvF f t key n = -1 ↔ lastPut f t key n = 0 := by
  unfold pvF
  by_cases c : lastPut f t key n = 0
  · rw [if_pos c]; exact ⟨fun _ => c, fun _ => rfl⟩
  · rw [if_neg c]
    obtain ⟨h1, h2, -, -⟩ := lastPut_rec c
    obtain ⟨-, v, h3, h4⟩ := (h _ h1 (lastPut_le f t key n)).put h2
    rw [h4]
    exact ⟨fun q => absurd q (nI_ne1 (by omega)), fun q => absurd q c⟩
theorem lastPut_after {f : Nat → Int32} {t key : Int32} {k n : Nat} (hk : k ≤ n) (h : ∀ r, k < r → r ≤ n → ¬ rcf f r 1 = t) : lastPut f t key n = lastPut f t key k := by
  induction n with
  | zero => rw [show k = 0 by omega]
  | succ n ih =>
    rcases Nat.lt_or_ge n k with q | q
    · rw [show k = n + 1 by omega]
    · rw [lastPut_f (fun z => h (n + 1) (by omega) (by omega) z.2.1)]
      exact ih q (fun r h1 h2 => h r h1 (by omega))
theorem InvB.sub {f : Nat → Int32} {M p : Nat} (h : InvB f M) (hp : p ≤ rN f) : ∀ r, 1 ≤ r → r ≤ p → RecOk f M r := fun r h1 h2 => h.rec_ r h1 (by omega)
theorem lcC_eq {f : Nat → Int32} {M : Nat} (h : InvB f M) (key : Int32) {p : Nat} (hp : p ≤ rN f) : lcC f key p = lastCommit f (rN f) key p := by
  induction p with
  | zero => rfl
  | succ p ih =>
    have e : (rcf f (p + 1) 0 = nI 1 ∧ ¬ pvF f (rcf f (p + 1) 1) key (p + 1) = -1) ↔ (rcf f (p + 1) 0 = nI 1 ∧ 0 < lastPut f (rcf f (p + 1) 1) key (rN f)) := by
      refine and_congr_right (fun hk => ?_)
      have hz : ¬ rcf f (p + 1) 0 = 0 := by rw [hk]; decide
      rw [pvF_none (h.sub hp), lastPut_after (k := p + 1) hp (fun r h1 h2 => h.after (p + 1) r (by omega) h1 h2 hz)]
      omega
    show (if _ then _ else _) = (if _ then _ else _)
    rw [ih (by omega)]
    by_cases c : rcf f (p + 1) 0 = nI 1 ∧ ¬ pvF f (rcf f (p + 1) 1) key (p + 1) = -1
    · rw [if_pos c, if_pos (e.1 c)]
    · rw [if_neg c, if_neg (fun q => c (e.2 q))]
theorem lastCommit_k {f : Nat → Int32} {n : Nat} {key : Int32} {p : Nat} (h : lastCommit f n key p ≠ 0) : rcf f (lastCommit f n key p) 0 = nI 1 := by
  induction p with
  | zero => exact absurd rfl h
  | succ p ih =>
    by_cases c : rcf f (p + 1) 0 = nI 1 ∧ 0 < lastPut f (rcf f (p + 1) 1) key n
    · have e : lastCommit f n key (p + 1) = p + 1 := if_pos c
      rw [e]; exact c.1
    · have e : lastCommit f n key (p + 1) = lastCommit f n key p := if_neg c
      rw [e] at h ⊢; exact ih h
theorem vlC_eq {f : Nat → Int32} {M : Nat} (h : InvB f M) (key : Int32) {p : Nat} (hp : p ≤ rN f) : vlC f key p = valueAt f (rN f) key p := by
  unfold vlC valueAt
  rw [lcC_eq h key hp]
  by_cases c : lastCommit f (rN f) key p = 0
  · rw [if_pos c, if_pos c]
  · rw [if_neg c, if_neg c]
    have hl := lastCommit_le f (rN f) key p
    have hz : ¬ rcf f (lastCommit f (rN f) key p) 0 = 0 := by rw [lastCommit_k c]; decide
    have hq := lastCommit_put c
    have e := lastPut_after (key := key) (k := lastCommit f (rN f) key p) (n := rN f) (t := rcf f (lastCommit f (rN f) key p) 1) (by omega) (fun r h1 h2 => h.after _ r (by omega) h1 h2 hz)
    unfold pvF
    rw [← e, if_neg (by omega)]
theorem seC_eq {f : Nat → Int32} {M : Nat} (h : InvB f M) (t key : Int32) : seC f t key (rN f) = aOwn f t key := by
  unfold seC aOwn
  have e := pvF_none (h.sub (Nat.le_refl _)) t key
  by_cases c : lastPut f t key (rN f) = 0
  · rw [if_pos (e.2 c), if_neg (by omega)]; exact vlC_eq h key (Nat.le_refl _)
  · rw [if_neg (fun q => c (e.1 q)), if_pos (by omega)]
    unfold pvF; rw [if_neg c]
theorem unC_eq {f : Nat → Int32} {M b : Nat} (h : InvB f M) (hb : b < 2) (k : Nat) : unC f (apN f b) (rN f) k = unlike f b k := by
  obtain ⟨-, -, h1, h2⟩ := InvA_ap h.a hb
  induction k with
  | zero => rfl
  | succ k ih =>
    show unC f (apN f b) (rN f) k + _ = unlike f b k + _
    rw [ih, vlC_eq h _ (by omega), vlC_eq h _ (Nat.le_refl _)]
/-! ticks -/
def TkS (f F : Nat → Int32) : Prop := ∀ k, k ≠ 1 → k ≠ 13 → k ≠ 16 → F k = f k
theorem goesN_congr {f F : Nat → Int32} (h : ∀ k, k ≠ 1 → k ≠ 6 → k ≠ 7 → k ≠ 13 → k ≠ 16 → F k = f k) {b : Nat} (hb : b < 2) (tk : Int32) (k p : Nat) : goesN F b tk k p = goesN f b tk k p := by
  induction k generalizing p with
  | zero => rfl
  | succ k ih =>
    have e1 : sbf F b 0 = sbf f b 0 := h _ (by omega) (by omega) (by omega) (by omega) (by omega)
    have e2 : F (17 + 100 * b + (p + 1)) = f (17 + 100 * b + (p + 1)) := h _ (by omega) (by omega) (by omega) (by omega) (by omega)
    have e3 : F 8 = f 8 := h _ (by omega) (by omega) (by omega) (by omega) (by omega)
    have e4 : rcf F (p + 1) 4 = rcf f (p + 1) 4 := h _ (by omega) (by omega) (by omega) (by omega) (by omega)
    simp only [goesN, okGo, gpf, e1, e2, e3, e4, ih]
theorem goesA_congr {f F : Nat → Int32} (h : ∀ k, k ≠ 1 → k ≠ 6 → k ≠ 7 → k ≠ 13 → k ≠ 16 → F k = f k) {b : Nat} (hb : b < 2) (tk : Int32) (k p : Nat) : goesA F b tk k p = goesA f b tk k p := by
  have e : sbf F b 2 = sbf f b 2 := h _ (by omega) (by omega) (by omega) (by omega) (by omega)
  unfold goesA
  rw [e, goesN_congr h hb]
theorem tickU_s (f : Nat → Int32) : ∀ k, k ≠ 1 → tickU f k = f k := fun k hk => upd_n hk
theorem tickB_s (f : Nat → Int32) (b : Nat) : ∀ k, k ≠ 12 + 3 * b + 1 → tickB f b k = f k := fun k hk => upd_n hk
theorem tick1_s (f : Nat → Int32) : TkS f (tick1 f) := fun k h1 h2 h3 => by
  show tickB (tickB (tickU f) 0) 1 k = _
  rw [tickB_s _ _ k (by omega), tickB_s _ _ k (by omega), tickU_s _ k h1]
theorem tickK_s (f : Nat → Int32) (i : Nat) : TkS f (tickK f i) := by
  induction i with
  | zero => exact fun k _ _ _ => rfl
  | succ i ih => exact fun k h1 h2 h3 => (tick1_s (tickK f i) k h1 h2 h3).trans (ih k h1 h2 h3)
theorem tickK_1 (f : Nat → Int32) (i : Nat) : tickK f (i + 1) 1 = tickK f i 1 + nI 1 := by
  show tickB (tickB (tickU (tickK f i)) 0) 1 1 = _
  rw [tickB_s _ _ 1 (by omega), tickB_s _ _ 1 (by omega)]; exact upd_s
theorem tickK_n (f : Nat → Int32) (i : Nat) : tickK f i 1 = f 1 + nI i := by
  induction i with
  | zero => show f 1 = f 1 + 0; rw [Int32.add_zero]
  | succ i ih => rw [tickK_1, ih, Int32.add_assoc, nI_add]
theorem tick1_ap {f : Nat → Int32} (h : InvA f) {b : Nat} (hb : b < 2) : apN (tick1 f) b = apN f b + goesA f b (f 1 + nI 1) (rtN f) (apN f b) := by
  obtain ⟨a1, a2, a3, a4⟩ := InvA_ap h hb
  have hn := h.2.1
  have hg := goesA_rc a1 (by omega) (f 1 + nI 1) (rtN f) (apN f b) a3
  have eU : tickU f 1 = f 1 + nI 1 := upd_s
  rcases (show b = 0 ∨ b = 1 by omega) with e | e
  · subst e
    have q1 : gB (tickU f) 0 = goesA f 0 (f 1 + nI 1) (rtN f) (apN f 0) := by
      show goesA (tickU f) 0 (tickU f 1) (rtN f) (apN f 0) = _
      rw [eU]; exact goesA_congr (fun k h1 _ _ _ _ => tickU_s f k h1) (by omega) _ _ _
    have q2 : sbf (tick1 f) 0 1 = nI (apN f 0 + gB (tickU f) 0) := by
      show tickB (tickB (tickU f) 0) 1 13 = _
      rw [tickB_s _ _ 13 (by omega)]; exact upd_s
    show (sbf (tick1 f) 0 1).toNatClampNeg = _
    rw [q2, q1, nI_clamp (by omega)]
  · subst e
    have q1 : gB (tickB (tickU f) 0) 1 = goesA f 1 (f 1 + nI 1) (rtN f) (apN f 1) := by
      show goesA (tickB (tickU f) 0) 1 (tickU f 1) (rtN f) (apN f 1) = _
      rw [eU]; exact goesA_congr (fun k h1 _ _ h13 _ => (tickB_s _ _ k (by omega)).trans (tickU_s f k h1)) (by omega) _ _ _
    have q2 : sbf (tick1 f) 1 1 = nI (apN f 1 + gB (tickB (tickU f) 0) 1) := by
      show upd (tickB (tickU f) 0) 16 (nI (apN (tickB (tickU f) 0) 1 + gB (tickB (tickU f) 0) 1)) 16 = _
      rw [upd_s]; rfl
    show (sbf (tick1 f) 1 1).toNatClampNeg = _
    rw [q2, q1, nI_clamp (by omega)]
theorem rtN_s {f F : Nat → Int32} (h : TkS f F) : rtN F = rtN f := by unfold rtN; rw [h 7 (by omega) (by omega) (by omega)]
theorem TkS.w {f F : Nat → Int32} (h : TkS f F) : ∀ k, k ≠ 1 → k ≠ 6 → k ≠ 7 → k ≠ 13 → k ≠ 16 → F k = f k := fun k h1 _ _ h2 h3 => h k h1 h2 h3
theorem tickK_ap {f : Nat → Int32} (h : InvA f) {b : Nat} (hb : b < 2) (i : Nat) : apN (tickK f (i + 1)) b = apN (tickK f i) b + goesA f b (tickK f i 1 + nI 1) (rtN f) (apN (tickK f i) b) := by
  show apN (tick1 (tickK f i)) b = _
  rw [tick1_ap (InvA_tickK h i) hb, rtN_s (tickK_s f i), goesA_congr (tickK_s f i).w hb]
theorem tickS_s {f : Nat → Int32} (i : Nat) : tickS f (i + 1) = tickS f i + goesA f 0 (tickK f i 1 + nI 1) (rtN f) (apN (tickK f i) 0) + goesA f 1 (tickK f i 1 + nI 1) (rtN f) (apN (tickK f i) 1) := by
  have eU : tickU (tickK f i) 1 = tickK f i 1 + nI 1 := upd_s
  have hw : TkS f (tickU (tickK f i)) := fun k h1 h2 h3 => (tickU_s _ k h1).trans (tickK_s f i k h1 h2 h3)
  have hw2 : TkS f (tickB (tickU (tickK f i)) 0) := fun k h1 h2 h3 => (tickB_s _ _ k (by omega)).trans (hw k h1 h2 h3)
  have q0 : gB (tickU (tickK f i)) 0 = goesA f 0 (tickK f i 1 + nI 1) (rtN f) (apN (tickK f i) 0) := by
    show goesA (tickU (tickK f i)) 0 (tickU (tickK f i) 1) (rtN (tickU (tickK f i))) (apN (tickK f i) 0) = _
    rw [eU, rtN_s hw, goesA_congr hw.w (by omega)]
  have q1 : gB (tickB (tickU (tickK f i)) 0) 1 = goesA f 1 (tickK f i 1 + nI 1) (rtN f) (apN (tickK f i) 1) := by
    show goesA (tickB (tickU (tickK f i)) 0) 1 (tickU (tickK f i) 1) (rtN (tickB (tickU (tickK f i)) 0)) (apN (tickK f i) 1) = _
    rw [eU, rtN_s hw2, goesA_congr hw2.w (by omega)]
  show tickS f i + _ + _ = _
  rw [q0, q1]
theorem untilN_step {f : Nat → Int32} (h : InvA f) {b pos m x : Nat} (hb : b < 2) (hc : ¬ pos ≤ apN (tickK f x) b) : untilN f b pos (rtN f) (m + 1) (apN (tickK f x) b) x = untilN f b pos (rtN f) m (apN (tickK f (x + 1)) b) (x + 1) := by
  show (if _ then _ else _) = _
  rw [if_neg hc, tickK_ap h hb, tickK_n]
  rfl
theorem untilN_end {f : Nat → Int32} {b pos k m x now : Nat} (hc : pos ≤ now) : untilN f b pos k (m + 1) now x = nI x := if_pos hc
theorem untilN_congr {f F : Nat → Int32} (h : ∀ k, k ≠ 6 → k ≠ 7 → F k = f k) {b : Nat} (hb : b < 2) (pos k m now n : Nat) : untilN F b pos k m now n = untilN f b pos k m now n := by
  induction m generalizing now n with
  | zero => rfl
  | succ m ih => simp only [untilN, ih, goesA_congr (fun k _ h6 h7 _ _ => h k h6 h7) hb, h 1 (by omega) (by omega)]
def tkC (f : Nat → Int32) (b pos rt most : Nat) : Int32 := if untilN f b pos rt (most + 1) (apN f b) 0 = cNF then -1 else untilN f b pos rt (most + 1) (apN f b) 0
theorem nI_nNF {n : Nat} (h : n < 2 ^ 31) : ¬ nI n = cNF := fun e => nI_pos h (by rw [e]; decide)
theorem untilN_pos (f : Nat → Int32) (b pos k : Nat) (m now n : Nat) (h : m + n < 2 ^ 30) : untilN f b pos k m now n = cNF ∨ ∃ x, x < 2 ^ 30 ∧ untilN f b pos k m now n = nI x := by
  induction m generalizing now n with
  | zero => exact Or.inl rfl
  | succ m ih =>
    by_cases c : pos ≤ now
    · exact Or.inr ⟨n, by omega, if_pos c⟩
    · have e : untilN f b pos k (m + 1) now n = untilN f b pos k m (now + goesA f b (f 1 + nI n + 1) k now) (n + 1) := if_neg c
      rw [e]; exact ih _ _ (by omega)
