/-! the store's log: the list's array and its notes -/
section LG
variable {D : va_G} {dA : Nat → ClassId} {A B : Nat → Prop} {f f' : Nat → Int32} {g : Nat → Option Nat} {ae n : Nat} {H0 H : Heap} {locs : List Loc}
def NtA (D : va_G) (A : Nat → Prop) (f : Nat → Int32) (g : Nat → Option Nat) (n : Nat) (H : Heap) : Prop := ∀ k, k < n → ∃ y : Nat, g k = some y ∧ ¬ A y ∧ va_at D vwCl (y, .inr (6, ntE f (k + 1))) H
theorem NtA.kept (h : NtA D A f g n H0) (hS : va_S A H0 H locs) : NtA D A f g n H := fun k hk => by
  obtain ⟨y, h1, h2, h3⟩ := h k hk
  exact ⟨y, h1, h2, h3.kept (hS.2.1 y h3.lt h2)⟩
theorem NtA.narrow (h : NtA D A f g n H) (hAB : ∀ q, B q → A q) : NtA D B f g n H := fun k hk => by
  obtain ⟨y, h1, h2, h3⟩ := h k hk
  exact ⟨y, h1, fun q => h2 (hAB y q), h3⟩
theorem NtA.ro (h : NtA D A f g n H) : NtA D (fun q => H.size ≤ q) f g n H := fun k hk => by
  obtain ⟨y, h1, h2, h3⟩ := h k hk
  exact ⟨y, h1, Nat.not_le.2 h3.lt, h3⟩
theorem NtA.G (h : NtA D A f g n H) : NtG D A g n H := fun k hk => by
  obtain ⟨y, h1, h2, h3⟩ := h k hk
  exact ⟨y, _, h1, h2, h3⟩
theorem ntE_congr {r : Nat} (h : ∀ w, w < 5 → rcf f' r w = rcf f r w) : ntE f' r = ntE f r := by
  unfold ntE nfF
  rw [h 0 (by decide), h 1 (by decide), h 2 (by decide), h 3 (by decide), h 4 (by decide)]
theorem NtA.congr (h : NtA D A f g n H) (he : ∀ r, 1 ≤ r → r ≤ n → ∀ w, w < 5 → rcf f' r w = rcf f r w) : NtA D A f' g n H := fun k hk => by
  obtain ⟨y, h1, h2, h3⟩ := h k hk
  exact ⟨y, h1, h2, by rw [ntE_congr (he (k + 1) (by omega) (by omega))]; exact h3⟩
/-- the log, that nobody changes -/
def LogRA (D : va_G) (dA : Nat → ClassId) (A : Nat → Prop) (f : Nat → Int32) (ae n : Nat) (H : Heap) : Prop := n ≤ 100 ∧ (n = 0 ∨ ∃ (cap : Nat) (g : Nat → Option Nat), n ≤ cap ∧ cap ≤ 10000 ∧ ¬ A ae ∧ va_at D vwCl (ae, .inl (dA 3, cap, .inr (.inr (.inr (.inr g))))) H ∧ NtA D A f g n H)
theorem LogRA.kept (h : LogRA D dA A f ae n H0) (hS : va_S A H0 H locs) : LogRA D dA A f ae n H := by
  obtain ⟨h1, h | ⟨cap, g, h2, h3, h4, h5, h6⟩⟩ := h
  · exact ⟨h1, Or.inl h⟩
  · exact ⟨h1, Or.inr ⟨cap, g, h2, h3, h4, h5.kept (hS.2.1 ae h5.lt h4), h6.kept hS⟩⟩
theorem LogRA.narrow (h : LogRA D dA A f ae n H) (hAB : ∀ q, B q → A q) : LogRA D dA B f ae n H := by
  obtain ⟨h1, h | ⟨cap, g, h2, h3, h4, h5, h6⟩⟩ := h
  · exact ⟨h1, Or.inl h⟩
  · exact ⟨h1, Or.inr ⟨cap, g, h2, h3, fun q => h4 (hAB _ q), h5, h6.narrow hAB⟩⟩
theorem LogRA.ro (h : LogRA D dA A f ae n H) : LogRA D dA (fun q => H.size ≤ q) f ae n H := by
  obtain ⟨h1, h | ⟨cap, g, h2, h3, h4, h5, h6⟩⟩ := h
  · exact ⟨h1, Or.inl h⟩
  · exact ⟨h1, Or.inr ⟨cap, g, h2, h3, Nat.not_le.2 h5.lt, h5, h6.ro⟩⟩
theorem LogRA.congr (h : LogRA D dA A f ae n H) (he : ∀ r, 1 ≤ r → r ≤ n → ∀ w, w < 5 → rcf f' r w = rcf f r w) : LogRA D dA A f' ae n H := by
  obtain ⟨h1, h | ⟨cap, g, h2, h3, h4, h5, h6⟩⟩ := h
  · exact ⟨h1, Or.inl h⟩
  · exact ⟨h1, Or.inr ⟨cap, g, h2, h3, h4, h5, h6.congr he⟩⟩
theorem LogRA.at (h : LogRA D dA A f ae n H) {r : Nat} (h1 : 1 ≤ r) (h2 : r ≤ n) : ∃ (y cap : Nat) (g : Nat → Option Nat), n ≤ cap ∧ cap ≤ 10000 ∧ va_at D vwCl (ae, .inl (dA 3, cap, .inr (.inr (.inr (.inr g))))) H ∧ g (r - 1) = some y ∧ va_at D vwCl (y, .inr (6, ntE f r)) H ∧ NtV D A y H := by
  obtain ⟨-, h | ⟨cap, g, q1, q2, q3, q4, q5⟩⟩ := h
  · omega
  · obtain ⟨y, e1, e2, e3⟩ := q5 (r - 1) (by omega)
    rw [show r - 1 + 1 = r by omega] at e3
    exact ⟨y, cap, g, q1, q2, q4, e1, e3, _, e2, e3⟩
end LG
/-! what the component computes -/
theorem nI_ne1 {n : Nat} (h : n < 2 ^ 31) : ¬ nI n = -1 := fun e => nI_pos h (by rw [e]; decide)
theorem commits_t {f : Nat → Int32} {a k : Nat} (h : rcf f (a + k) 0 = nI 1) : commits f a (k + 1) = commits f a k + 1 := by
  show commits f a k + _ = _; rw [if_pos h]
theorem commits_f {f : Nat → Int32} {a k : Nat} (h : ¬ rcf f (a + k) 0 = nI 1) : commits f a (k + 1) = commits f a k + 0 := by
  show commits f a k + _ = _; rw [if_neg h]
theorem putsOf_t {f : Nat → Int32} {t : Int32} {k : Nat} (h : rcf f (k + 1) 0 = nI 0 ∧ rcf f (k + 1) 1 = t) : putsOf f t (k + 1) = putsOf f t k + 1 := by
  have h : rcf f (k + 1) 0 = 0 ∧ rcf f (k + 1) 1 = t := h
  show putsOf f t k + _ = _; rw [if_pos h]
theorem putsOf_f {f : Nat → Int32} {t : Int32} {k : Nat} (h : ¬ (rcf f (k + 1) 0 = nI 0 ∧ rcf f (k + 1) 1 = t)) : putsOf f t (k + 1) = putsOf f t k + 0 := by
  have h : ¬ (rcf f (k + 1) 0 = 0 ∧ rcf f (k + 1) 1 = t) := h
  show putsOf f t k + _ = _; rw [if_neg h]
/-- the value of the last put up to a record; -1: there is none -/
def pvF (f : Nat → Int32) (t key : Int32) (n : Nat) : Int32 := if lastPut f t key n = 0 then -1 else rcf f (lastPut f t key n) 3
theorem pvF_0 {f : Nat → Int32} {t key : Int32} : pvF f t key 0 = -1 := rfl
theorem lastPut_t {f : Nat → Int32} {t key : Int32} {x : Nat} (h : rcf f (x + 1) 0 = 0 ∧ rcf f (x + 1) 1 = t ∧ rcf f (x + 1) 2 = key) : lastPut f t key (x + 1) = x + 1 := if_pos h
theorem lastPut_f {f : Nat → Int32} {t key : Int32} {x : Nat} (h : ¬ (rcf f (x + 1) 0 = 0 ∧ rcf f (x + 1) 1 = t ∧ rcf f (x + 1) 2 = key)) : lastPut f t key (x + 1) = lastPut f t key x := if_neg h
theorem nfF_0 {f : Nat → Int32} {r j : Nat} (h : rcf f r 0 = 0) : nfF f r j = rcf f r j := if_pos h
theorem pvF_t {f : Nat → Int32} {t key : Int32} {x : Nat} (h : rcf f (x + 1) 0 = nI 0 ∧ rcf f (x + 1) 1 = t) (h2 : nfF f (x + 1) 2 = key) : pvF f t key (x + 1) = nfF f (x + 1) 3 := by
  have h0 : rcf f (x + 1) 0 = 0 := h.1
  rw [nfF_0 h0] at h2
  unfold pvF
  rw [lastPut_t ⟨h0, h.2, h2⟩, if_neg (by omega), nfF_0 h0]
theorem pvF_f1 {f : Nat → Int32} {t key : Int32} {x : Nat} (h : ¬ (rcf f (x + 1) 0 = nI 0 ∧ rcf f (x + 1) 1 = t)) : pvF f t key (x + 1) = pvF f t key x := by
  unfold pvF
  rw [lastPut_f (fun q => h ⟨q.1, q.2.1⟩)]
theorem pvF_f2 {f : Nat → Int32} {t key : Int32} {x : Nat} (h : ¬ nfF f (x + 1) 2 = key) : pvF f t key (x + 1) = pvF f t key x := by
  unfold pvF
  rw [lastPut_f (fun q => h (by rw [nfF_0 q.1]; exact q.2.2))]
/-- the last commit up to a record of a transaction that put a key before it -/
def lcC (f : Nat → Int32) (key : Int32) : Nat → Nat
  | 0 => 0
  | k + 1 => if rcf f (k + 1) 0 = nI 1 ∧ ¬ pvF f (rcf f (k + 1) 1) key (k + 1) = -1 then k + 1 else lcC f key k
theorem lcC_le (f : Nat → Int32) (key : Int32) (p : Nat) : lcC f key p ≤ p := by
  induction p with
  | zero => exact Nat.le_refl _
  | succ p ih => simp only [lcC]; split <;> omega
theorem lcC_t {f : Nat → Int32} {key : Int32} {x : Nat} (h : rcf f (x + 1) 0 = nI 1) (h2 : ¬ pvF f (rcf f (x + 1) 1) key (x + 1) = -1) : lcC f key (x + 1) = x + 1 := if_pos ⟨h, h2⟩
theorem lcC_f1 {f : Nat → Int32} {key : Int32} {x : Nat} (h : ¬ rcf f (x + 1) 0 = nI 1) : lcC f key (x + 1) = lcC f key x := if_neg (fun q => h q.1)
theorem lcC_f2 {f : Nat → Int32} {key : Int32} {x : Nat} (h : pvF f (rcf f (x + 1) 1) key (x + 1) = -1) : lcC f key (x + 1) = lcC f key x := if_neg (fun q => q.2 h)
def vlC (f : Nat → Int32) (key : Int32) (p : Nat) : Int32 := if lcC f key p = 0 then 0 else pvF f (rcf f (lcC f key p) 1) key (lcC f key p)
theorem vlC_0 {f : Nat → Int32} {key : Int32} {p : Nat} (h : lcC f key p = 0) : 0 = vlC f key p := (if_pos h).symm
theorem vlC_1 {f : Nat → Int32} {key : Int32} {p : Nat} (h : ¬ lcC f key p = 0) : pvF f (rcf f (lcC f key p) 1) key (lcC f key p) = vlC f key p := (if_neg h).symm
def unC (f : Nat → Int32) (p n : Nat) : Nat → Nat
  | 0 => 0
  | k + 1 => unC f p n k + if vlC f (nI k) p = vlC f (nI k) n then 0 else 1
theorem unC_t {f : Nat → Int32} {p n k : Nat} (h : vlC f (nI k) p = vlC f (nI k) n) : unC f p n (k + 1) = unC f p n k + 0 := by
  show unC f p n k + _ = _; rw [if_pos h]
theorem unC_f {f : Nat → Int32} {p n k : Nat} (h : ¬ vlC f (nI k) p = vlC f (nI k) n) : unC f p n (k + 1) = unC f p n k + 1 := by
  show unC f p n k + _ = _; rw [if_neg h]
def seC (f : Nat → Int32) (t key : Int32) (n : Nat) : Int32 := if pvF f t key n = -1 then vlC f key n else pvF f t key n
/-! the bits of a standby -/
def gapB (f : Nat → Int32) (b w : Nat) : Prop := w.testBit 0 = false ∧ ∀ r, 1 ≤ r → r ≤ 100 → (w.testBit r = true ↔ gpf f b r)
theorem okGo_iff {f : Nat → Int32} {b w rc p : Nat} {tk dl : Int32} (hg : gapB f b w) (hrc : sbf f b 0 = nI rc) (hl : rc ≤ 100) (hp : p ≤ 100) (hd : dl = f 8) : ((p < rc ∧ ¬ w.testBit (p + 1) = true) ∧ ¬ tk - rcf f (p + 1) 4 < dl) ↔ okGo f b p tk := by
  subst hd
  constructor
  · rintro ⟨⟨h1, h2⟩, h3⟩
    exact ⟨by rw [hrc]; exact nI_le (by omega) (by omega), fun q => h2 ((hg.2 (p + 1) (by omega) (by omega)).2 q), Int32.not_lt.1 h3⟩
  · rintro ⟨h1, h2, h3⟩
    rw [hrc] at h1
    have h4 := (nI_leI (by omega) (by omega)).1 h1
    exact ⟨⟨by omega, fun q => h2 ((hg.2 (p + 1) (by omega) (by omega)).1 q)⟩, Int32.not_lt.2 h3⟩
theorem goesN_go {f : Nat → Int32} {b k x p : Nat} {tk : Int32} (hx : x < k) (h : okGo f b (p + x) tk) : goesN f b tk (k - x) (p + x) = goesN f b tk (k - (x + 1)) (p + (x + 1)) + 1 := by
  obtain ⟨m, hm⟩ : ∃ m, k - x = m + 1 := ⟨k - x - 1, by omega⟩
  rw [hm, show k - (x + 1) = m by omega]
  show (if okGo f b (p + x) tk then _ else _) = _
  rw [if_pos h, Nat.add_assoc]
theorem goesN_no {f : Nat → Int32} {b k p : Nat} {tk : Int32} (h : ¬ okGo f b p tk) : goesN f b tk k p = 0 := by
  cases k with
  | zero => rfl
  | succ k => exact if_neg h
theorem goesA_t {f : Nat → Int32} {b k p : Nat} {tk : Int32} (h : sbf f b 2 = 0) : goesA f b tk k p = goesN f b tk k p := if_pos h
theorem goesA_f {f : Nat → Int32} {b k p : Nat} {tk : Int32} (h : ¬ sbf f b 2 = 0) : goesA f b tk k p = 0 := if_neg h
