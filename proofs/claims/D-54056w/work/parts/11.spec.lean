/-! the abstract store: the model's own array of 718 ints -/
def rcf (f : Nat → Int32) (r w : Nat) : Int32 := f (213 + 5 * r + w)
def sbf (f : Nat → Int32) (b w : Nat) : Int32 := f (12 + 3 * b + w)
abbrev gpf (f : Nat → Int32) (b r : Nat) : Prop := f (17 + 100 * b + r) = nI 1
def lastPut (f : Nat → Int32) (t key : Int32) : Nat → Nat
  | 0 => 0
  | n + 1 => if rcf f (n + 1) 0 = 0 ∧ rcf f (n + 1) 1 = t ∧ rcf f (n + 1) 2 = key then n + 1 else lastPut f t key n
theorem lastPut_le (f : Nat → Int32) (t key : Int32) (n : Nat) : lastPut f t key n ≤ n := by
  induction n with
  | zero => exact Nat.le_refl _
  | succ n ih => simp only [lastPut]; split <;> omega
def lastCommit (f : Nat → Int32) (n : Nat) (key : Int32) : Nat → Nat
  | 0 => 0
  | r + 1 => if rcf f (r + 1) 0 = nI 1 ∧ 0 < lastPut f (rcf f (r + 1) 1) key n then r + 1 else lastCommit f n key r
theorem lastCommit_le (f : Nat → Int32) (n : Nat) (key : Int32) (p : Nat) : lastCommit f n key p ≤ p := by
  induction p with
  | zero => exact Nat.le_refl _
  | succ p ih => simp only [lastCommit]; split <;> omega
theorem lastCommit_put {f : Nat → Int32} {n : Nat} {key : Int32} {p : Nat} (h : lastCommit f n key p ≠ 0) : 0 < lastPut f (rcf f (lastCommit f n key p) 1) key n := by
  induction p with
  | zero => exact absurd rfl h
  | succ p ih =>
    by_cases c : rcf f (p + 1) 0 = nI 1 ∧ 0 < lastPut f (rcf f (p + 1) 1) key n
    · have e : lastCommit f n key (p + 1) = p + 1 := by simp only [lastCommit]; rw [if_pos c]
      rw [e]; exact c.2
    · have e : lastCommit f n key (p + 1) = lastCommit f n key p := by simp only [lastCommit]; rw [if_neg c]
      rw [e] at h ⊢
      exact ih h
def valueAt (f : Nat → Int32) (n : Nat) (key : Int32) (p : Nat) : Int32 := if lastCommit f n key p = 0 then 0 else rcf f (lastPut f (rcf f (lastCommit f n key p) 1) key n) 3
/-- commits among the k records from a on -/
def commits (f : Nat → Int32) (a : Nat) : Nat → Nat
  | 0 => 0
  | k + 1 => commits f a k + if rcf f (a + k) 0 = nI 1 then 1 else 0
theorem commits_le (f : Nat → Int32) (a k : Nat) : commits f a k ≤ k := by
  induction k with
  | zero => exact Nat.le_refl _
  | succ k ih => simp only [commits]; split <;> omega
def gaps (f : Nat → Int32) (b : Nat) : Nat → Nat
  | 0 => 0
  | r + 1 => gaps f b r + if gpf f b (r + 1) then 1 else 0
theorem gaps_le (f : Nat → Int32) (b k : Nat) : gaps f b k ≤ k := by
  induction k with
  | zero => exact Nat.le_refl _
  | succ k ih => simp only [gaps]; split <;> omega
/-- the lowest gap among r+1 .. r+k, or 0 -/
def lowGap (f : Nat → Int32) (b : Nat) : Nat → Nat → Nat
  | 0, _ => 0
  | k + 1, r => if gpf f b (r + 1) then r + 1 else lowGap f b k (r + 1)
def cNF : Int32 := -1000004
abbrev okGo (f : Nat → Int32) (b p : Nat) (tk : Int32) : Prop := nI (p + 1) ≤ sbf f b 0 ∧ ¬ gpf f b (p + 1) ∧ f 8 ≤ tk - rcf f (p + 1) 4
/-- how many records it goes on from p in a tick, k at most -/
def goesN (f : Nat → Int32) (b : Nat) (tk : Int32) : Nat → Nat → Nat
  | 0, _ => 0
  | k + 1, p => if okGo f b p tk then goesN f b tk k (p + 1) + 1 else 0
theorem goesN_le (f : Nat → Int32) (b : Nat) (tk : Int32) (k p : Nat) : goesN f b tk k p ≤ k := by
  induction k generalizing p with
  | zero => exact Nat.le_refl _
  | succ k ih => simp only [goesN]; split <;> have := ih (p + 1) <;> omega
def goesA (f : Nat → Int32) (b : Nat) (tk : Int32) (k p : Nat) : Nat := if sbf f b 2 = 0 then goesN f b tk k p else 0
abbrev cIA : Int32 := -1000001
abbrev cNP : Int32 := -1000002
abbrev cLR : Int32 := -1000003
abbrev isS (k : Int32) : Prop := nI 0 ≤ k ∧ k ≤ nI 2
abbrev isK (k : Int32) : Prop := nI 0 ≤ k ∧ k ≤ nI 23
abbrev isB (k : Int32) : Prop := nI 0 ≤ k ∧ k ≤ nI 1
theorem zr_of {k : Int32} {N : Nat} (h : nI 0 ≤ k ∧ k ≤ nI N) (hN : N < 2 ^ 31) : ∃ j, j ≤ N ∧ k = nI j := by
  rcases pk_ix k (n := N) hN with q | q | ⟨j, hj, e⟩
  · exact absurd h.1 (Int32.not_le.2 q)
  · exact ⟨N, Nat.le_refl _, Int32.le_antisymm h.2 q⟩
  · exact ⟨j, Nat.le_of_lt hj, e⟩
theorem zr_in {j N : Nat} (h : j ≤ N) (hN : N < 2 ^ 31) : nI 0 ≤ nI j ∧ nI j ≤ nI N := ⟨nI_le (Nat.zero_le _) (by omega), nI_le h hN⟩
/-- counts out of the array -/
def rN (f : Nat → Int32) : Nat := (f 0).toNatClampNeg
def rcN (f : Nat → Int32) (b : Nat) : Nat := (sbf f b 0).toNatClampNeg
def apN (f : Nat → Int32) (b : Nat) : Nat := (sbf f b 1).toNatClampNeg
def rtN (f : Nat → Int32) : Nat := (f 7).toNatClampNeg
/-- what the walks ask of the array -/
def InvA (f : Nat → Int32) : Prop := f 0 = nI (rN f) ∧ rN f ≤ 100 ∧ (∀ b, b < 2 → sbf f b 0 = nI (rcN f b) ∧ sbf f b 1 = nI (apN f b) ∧ apN f b ≤ rcN f b ∧ rcN f b ≤ rN f) ∧ f 7 = nI (rtN f) ∧ rtN f ≤ 20
theorem goesN_rc {f : Nat → Int32} {b : Nat} {rc : Nat} (hrc : sbf f b 0 = nI rc) (hl : rc ≤ 100) (tk : Int32) (k p : Nat) (hp : p ≤ rc) : p + goesN f b tk k p ≤ rc := by
  induction k generalizing p with
  | zero => exact hp
  | succ k ih =>
    simp only [goesN]
    split
    · next h =>
      have h1 := h.1
      rw [hrc] at h1
      have h2 := (nI_leI (by omega) (by omega)).1 h1
      have := ih (p + 1) h2
      omega
    · exact hp
theorem goesA_rc {f : Nat → Int32} {b : Nat} {rc : Nat} (hrc : sbf f b 0 = nI rc) (hl : rc ≤ 100) (tk : Int32) (k p : Nat) (hp : p ≤ rc) : p + goesA f b tk k p ≤ rc := by
  unfold goesA
  split
  · exact goesN_rc hrc hl tk k p hp
  · exact hp
theorem goesA_le (f : Nat → Int32) (b : Nat) (tk : Int32) (k p : Nat) : goesA f b tk k p ≤ k := by
  unfold goesA
  split
  · exact goesN_le f b tk k p
  · exact Nat.zero_le _
/-- behind how many ticks it is at pos: m more tries -/
def untilN (f : Nat → Int32) (b pos k : Nat) : Nat → Nat → Nat → Int32
  | 0, _, _ => cNF
  | m + 1, now, n => if pos ≤ now then nI n else untilN f b pos k m (now + goesA f b (f 1 + nI n + 1) k now) (n + 1)
def lowG (f : Nat → Int32) (b : Nat) : Int32 := if lowGap f b 100 0 = 0 then cNF else nI (lowGap f b 100 0)
theorem lowGap_le (f : Nat → Int32) (b k r : Nat) : lowGap f b k r ≤ r + k := by
  induction k generalizing r with
  | zero => exact Nat.zero_le _
  | succ k ih =>
    simp only [lowGap]
    split
    · omega
    · have := ih (r + 1)
      omega
def unlike (f : Nat → Int32) (b : Nat) : Nat → Nat
  | 0 => 0
  | k + 1 => unlike f b k + if valueAt f (rN f) (nI k) (apN f b) = valueAt f (rN f) (nI k) (rN f) then 0 else 1
theorem unlike_le (f : Nat → Int32) (b k : Nat) : unlike f b k ≤ k := by
  induction k with
  | zero => exact Nat.le_refl _
  | succ k ih => simp only [unlike]; split <;> omega
def putsOf (f : Nat → Int32) (t : Int32) : Nat → Nat
  | 0 => 0
  | k + 1 => putsOf f t k + if rcf f (k + 1) 0 = 0 ∧ rcf f (k + 1) 1 = t then 1 else 0
theorem putsOf_le (f : Nat → Int32) (t : Int32) (k : Nat) : putsOf f t k ≤ k := by
  induction k with
  | zero => exact Nat.le_refl _
  | succ k ih => simp only [putsOf]; split <;> omega
/-- the least rate from r on (m more tries) -/
def rateN (f : Nat → Int32) (b goal most : Nat) : Nat → Nat → Int32
  | 0, _ => cNF
  | m + 1, r => if 0 ≤ untilN f b goal r (most + 1) (apN f b) 0 then nI r else rateN f b goal most m (r + 1)
/-! what the reads answer -/
abbrev aCan (f : Nat → Int32) (b : Nat) (fe : Int32) : Prop := sbf f b 2 = 0 ∧ fe ≤ sbf f b 1
abbrev isFe (f : Nat → Int32) (fe : Int32) : Prop := nI 0 ≤ fe ∧ fe ≤ f 0
def lost (f : Nat → Int32) (b : Nat) : Nat := commits f (apN f b + 1) (rN f - apN f b)
def aRead (f : Nat → Int32) (b key fe : Int32) : Int32 := if isB b then if isK key then if isFe f fe then if aCan f b.toNatClampNeg fe then valueAt f (rN f) key (apN f b.toNatClampNeg) else cNP else cIA else cIA else cIA
def aOwn (f : Nat → Int32) (t key : Int32) : Int32 := if 0 < lastPut f t key (rN f) then rcf f (lastPut f t key (rN f)) 3 else valueAt f (rN f) key (rN f)
def aPrimary (f : Nat → Int32) (sl key : Int32) : Int32 := if -1 ≤ sl ∧ sl ≤ nI 2 then if isK key then if sl < 0 then valueAt f (rN f) key (rN f) else if f (9 + sl.toNatClampNeg) = 0 then cNP else aOwn f (f (9 + sl.toNatClampNeg)) key else cIA else cIA
def aServes (f : Nat → Int32) (fe : Int32) : Int32 := if isFe f fe then if aCan f 0 fe then if aCan f 1 fe then if sbf f 1 1 ≤ sbf f 0 1 then 0 else 1 else 0 else if aCan f 1 fe then 1 else cNF else cIA
def aFence (f : Nat → Int32) (key : Int32) : Int32 := if isK key then if lastCommit f (rN f) key (rN f) = 0 then cNF else nI (lastCommit f (rN f) key (rN f)) else cIA
def aRecordOf (f : Nat → Int32) (r w : Int32) : Int32 := if r < nI 1 then cIA else if nI 0 ≤ w ∧ w ≤ nI 4 then if r ≤ f 0 then rcf f r.toNatClampNeg w.toNatClampNeg else cNF else cIA
def aStb (f : Nat → Int32) (b : Nat) : Nat → Int32
  | 0 => sbf f b 0
  | 1 => sbf f b 1
  | 2 => nI (gaps f b 100)
  | 3 => lowG f b
  | 4 => sbf f b 2
  | 5 => nI (rN f - apN f b)
  | 6 => nI (lost f b)
  | 7 => if apN f b = rN f then cNF else f 1 - rcf f (apN f b + 1) 4
  | _ => nI (unlike f b 24)
def aStandbyOf (f : Nat → Int32) (b w : Int32) : Int32 := if isB b then if nI 0 ≤ w ∧ w ≤ nI 8 then aStb f b.toNatClampNeg w.toNatClampNeg else cIA else cIA
def aSlotOf (f : Nat → Int32) (sl w : Int32) : Int32 := if isS sl then if nI 0 ≤ w ∧ w ≤ nI 1 then if f (9 + sl.toNatClampNeg) = 0 then cNF else if w = 0 then f (9 + sl.toNatClampNeg) else nI (putsOf f (f (9 + sl.toNatClampNeg)) (rN f)) else cIA else cIA
def aWaits (f : Nat → Int32) (b fe : Int32) : Int32 := if isB b then if isFe f fe then if sbf f b.toNatClampNeg 2 = nI 1 then cNP else untilN f b.toNatClampNeg fe.toNatClampNeg (rtN f) 201 (apN f b.toNatClampNeg) 0 else cIA else cIA
def aWouldLose (f : Nat → Int32) (b : Int32) : Int32 := if isB b then if sbf f b.toNatClampNeg 2 = nI 1 then cNP else nI (lost f b.toNatClampNeg) else cIA
def goalN (f : Nat → Int32) (b : Nat) : Nat := if lowGap f b 100 0 = 0 then rcN f b else lowGap f b 100 0 - 1
def aRateFor (f : Nat → Int32) (b t : Int32) : Int32 := if isB b then if nI 1 ≤ t ∧ t ≤ nI 99 then if sbf f b.toNatClampNeg 2 = nI 1 then cNP else rateN f b.toNatClampNeg (goalN f b.toNatClampNeg) t.toNatClampNeg 20 1 else cIA else cIA
def aCountN (f : Nat → Int32) (ps ty : Int32) : Nat → Int32
  | 0 => f 0
  | 1 => f 1
  | 2 => f 2
  | 3 => f 3
  | 4 => nI (commits f 1 (rN f))
  | 5 => f 4
  | 6 => f 5
  | 7 => f 6
  | 8 => ps
  | 9 => ty
  | 20 => f 7
  | 21 => f 8
  | _ => cIA
def aCount (f : Nat → Int32) (ps ty w : Int32) : Int32 := if nI 0 ≤ w ∧ w ≤ nI 21 then aCountN f ps ty w.toNatClampNeg else cIA
/-! what the writes do: (whether it is done, the answer, the store behind it) -/
abbrev Op : Type := Bool × Int32 × (Nat → Int32)
def bad (f : Nat → Int32) (r : Int32) : Op := (false, r, f)
def shGi (g : Nat → Int32) (i : Nat) : Nat → Int32 := fun j => if j < i then g (j + 718) else g j
def ptGi (f g : Nat → Int32) (p i : Nat) : Nat → Int32 := fun j => if 718 * p ≤ j ∧ j < 718 * p + i then f (j - 718 * p) else g j
def chG (v4 : Int32) (f g : Nat → Int32) (p : Nat) : Nat → Int32 := if v4 = 0 then if p = 4 then ptGi f (shGi g 2154) 3 718 else ptGi f g p 718 else g
def chP (v4 : Int32) (p : Nat) : Nat := if v4 = 0 then if p = 4 then 4 else p + 1 else p
def gG (ok : Bool) (v4 : Int32) (f g : Nat → Int32) (p : Nat) : Nat → Int32 := if ok = true then chG v4 f g p else g
def gP (ok : Bool) (v4 : Int32) (p : Nat) : Nat := if ok = true then chP v4 p else p
theorem chP_r {v4 : Int32} {p : Nat} (h : ¬ v4 = 0) : chP v4 p = p := if_neg h
theorem chG_r {v4 : Int32} {f g : Nat → Int32} {p : Nat} (h : ¬ v4 = 0) : chG v4 f g p = g := if_neg h
theorem chP_4 {v4 : Int32} {p : Nat} (h : v4 = 0) (hp : p = 4) : chP v4 p = 4 := by unfold chP; rw [if_pos h, if_pos hp]
theorem chG_4 {v4 : Int32} {f g : Nat → Int32} {p : Nat} (h : v4 = 0) (hp : p = 4) : chG v4 f g p = ptGi f (shGi g 2154) 3 718 := by unfold chG; rw [if_pos h, if_pos hp]
theorem chP_n {v4 : Int32} {p : Nat} (h : v4 = 0) (hp : ¬ p = 4) : chP v4 p = p + 1 := by unfold chP; rw [if_pos h, if_neg hp]
theorem chG_n {v4 : Int32} {f g : Nat → Int32} {p : Nat} (h : v4 = 0) (hp : ¬ p = 4) : chG v4 f g p = ptGi f g p 718 := by unfold chG; rw [if_pos h, if_neg hp]
theorem shGi_step (g : Nat → Int32) (i : Nat) : upd (shGi g i) i (shGi g i (i + 718)) = shGi g (i + 1) := by
  funext j
  simp only [upd, shGi]
  by_cases h : j = i
  · subst h; rw [if_pos rfl, if_neg (by omega), if_pos (by omega)]
  · rw [if_neg h]
    by_cases h2 : j < i
    · rw [if_pos h2, if_pos (by omega)]
    · rw [if_neg h2, if_neg (by omega)]
theorem ptGi_step (f g : Nat → Int32) (p i : Nat) : upd (ptGi f g p i) (718 * p + i) (f i) = ptGi f g p (i + 1) := by
  funext j
  simp only [upd, ptGi]
  by_cases h : j = 718 * p + i
  · subst h; rw [if_pos rfl, if_pos (by omega)]; congr 1; omega
  · rw [if_neg h]
    by_cases h2 : 718 * p ≤ j ∧ j < 718 * p + i
    · rw [if_pos h2, if_pos (by omega)]
    · rw [if_neg h2, if_neg (by omega)]
theorem shGi_0 (g : Nat → Int32) : g = shGi g 0 := by funext j; simp [shGi]
theorem ptGi_0 (f g : Nat → Int32) (p : Nat) : g = ptGi f g p 0 := by funext j; simp only [ptGi]; rw [if_neg (by omega)]
def oOpen (f : Nat → Int32) (sl : Int32) : Op := if isS sl then if f (9 + sl.toNatClampNeg) ≤ 0 then (true, f 3 + nI 1, upd (upd f 3 (f 3 + nI 1)) (9 + sl.toNatClampNeg) (f 3 + nI 1)) else bad f cNP else bad f cIA
def aBar (f : Nat → Int32) (sl : Int32) : Int32 := if isS sl then if f (9 + sl.toNatClampNeg) = 0 then cNP else if f 0 = nI 100 then cLR else 0 else cIA
theorem aBar_ok {f : Nat → Int32} {sl : Int32} (h : 0 ≤ aBar f sl) : isS sl ∧ ¬ f (9 + sl.toNatClampNeg) = 0 ∧ ¬ f 0 = nI 100 := by
  unfold aBar at h
  by_cases h1 : isS sl
  · rw [if_pos h1] at h
    by_cases h2 : f (9 + sl.toNatClampNeg) = 0
    · rw [if_pos h2] at h; exact absurd h (by decide)
    · rw [if_neg h2] at h
      by_cases h3 : f 0 = nI 100
      · rw [if_pos h3] at h; exact absurd h (by decide)
      · exact ⟨h1, h2, h3⟩
  · rw [if_neg h1] at h; exact absurd h (by decide)
def wrF (f : Nat → Int32) (kind j : Nat) (key v : Int32) : Nat → Int32 :=
  upd (upd (upd (upd (upd (upd (upd f 0 (nI (rN f + 1))) (213 + 5 * (rN f + 1)) (nI kind)) (213 + 5 * (rN f + 1) + 1) (f (9 + j))) (213 + 5 * (rN f + 1) + 2) key) (213 + 5 * (rN f + 1) + 3) v) (213 + 5 * (rN f + 1) + 4) (f 1)) (9 + j) (if kind = 0 then f (9 + j) else 0)
def oWr (f : Nat → Int32) (kind : Nat) (sl key v : Int32) : Op := if 0 ≤ aBar f sl then (true, nI (rN f + 1), wrF f kind sl.toNatClampNeg key v) else bad f (aBar f sl)
def oPut (f : Nat → Int32) (sl key v : Int32) : Op := if isK key then if nI 0 ≤ v ∧ v ≤ nI 999 then oWr f 0 sl key v else bad f cIA else bad f cIA
def shipN (f : Nat → Int32) (b k : Nat) : Nat := if rN f - rcN f b < k then rN f - rcN f b else k
def oShip (f : Nat → Int32) (b k : Int32) : Op := if isB b then if nI 1 ≤ k ∧ k ≤ nI 20 then if sbf f b.toNatClampNeg 2 = nI 1 then bad f cNP else (true, nI (shipN f b.toNatClampNeg k.toNatClampNeg), upd f (12 + 3 * b.toNatClampNeg + 0) (nI (rcN f b.toNatClampNeg + shipN f b.toNatClampNeg k.toNatClampNeg))) else bad f cIA else bad f cIA
def fillG (f : Nat → Int32) (b from_ : Nat) : Nat → Int32 := fun j => if 17 + 100 * b + from_ < j ∧ j ≤ 17 + 100 * b + 100 then 0 else f j
def fillGi (f : Nat → Int32) (b from_ i : Nat) : Nat → Int32 := fun j => if 17 + 100 * b + from_ < j ∧ j ≤ 17 + 100 * b + from_ + i then 0 else f j
theorem fillGi_step (f : Nat → Int32) (b from_ i : Nat) : upd (fillGi f b from_ i) (17 + 100 * b + (from_ + 1 + i)) 0 = fillGi f b from_ (i + 1) := by
  funext j
  simp only [upd, fillGi]
  by_cases h : j = 17 + 100 * b + (from_ + 1 + i)
  · subst h; rw [if_pos rfl, if_pos (by omega)]
  · rw [if_neg h]
    by_cases h2 : 17 + 100 * b + from_ < j ∧ j ≤ 17 + 100 * b + from_ + i
    · rw [if_pos h2, if_pos (by omega)]
    · rw [if_neg h2, if_neg (by omega)]
theorem fillGi_0 (f : Nat → Int32) (b from_ : Nat) : f = fillGi f b from_ 0 := by funext j; simp only [fillGi]; rw [if_neg (by omega)]
theorem fillGi_e (f : Nat → Int32) (b from_ i : Nat) (h : from_ + i = 100) : fillGi f b from_ i = fillG f b from_ := by
  funext j; simp only [fillGi, fillG]; rw [show 17 + 100 * b + from_ + i = 17 + 100 * b + 100 by omega]
def loseF (f : Nat → Int32) (b r : Nat) : Nat → Int32 := upd (upd f (17 + 100 * b + r) (nI 1)) 5 (f 5 + nI 1)
def oLose (f : Nat → Int32) (b r : Int32) : Op := if isB b then if nI 1 ≤ r then if sbf f b.toNatClampNeg 2 = nI 1 then bad f cNP else if r ≤ sbf f b.toNatClampNeg 0 then if r ≤ sbf f b.toNatClampNeg 1 then bad f cNP else if gpf f b.toNatClampNeg r.toNatClampNeg then bad f cNP else (true, nI (gaps (loseF f b.toNatClampNeg r.toNatClampNeg) b.toNatClampNeg 100), loseF f b.toNatClampNeg r.toNatClampNeg) else bad f cNP else bad f cIA else bad f cIA
def oResend (f : Nat → Int32) (b : Int32) : Op := if isB b then if sbf f b.toNatClampNeg 2 = nI 1 then bad f cNP else (true, nI (gaps f b.toNatClampNeg 100), fillG f b.toNatClampNeg 0) else bad f cIA
/-- one tick -/
def tickU (f : Nat → Int32) : Nat → Int32 := upd f 1 (f 1 + nI 1)
def gB (f : Nat → Int32) (b : Nat) : Nat := goesA f b (f 1) (rtN f) (apN f b)
def tickB (f : Nat → Int32) (b : Nat) : Nat → Int32 := upd f (12 + 3 * b + 1) (nI (apN f b + gB f b))
def tick1 (f : Nat → Int32) : Nat → Int32 := tickB (tickB (tickU f) 0) 1
def tickK (f : Nat → Int32) : Nat → Nat → Int32
  | 0 => f
  | i + 1 => tick1 (tickK f i)
def tickS (f : Nat → Int32) : Nat → Nat
  | 0 => 0
  | i + 1 => tickS f i + gB (tickU (tickK f i)) 0 + gB (tickB (tickU (tickK f i)) 0) 1
def oTick (f : Nat → Int32) (t : Int32) : Op := if nI 1 ≤ t ∧ t ≤ nI 99 then (true, nI (tickS f t.toNatClampNeg), upd (tickK f t.toNatClampNeg) 6 (tickK f t.toNatClampNeg 6 + nI (tickS f t.toNatClampNeg))) else bad f cIA
def laysF (f : Nat → Int32) (b p : Nat) (a : Int32) : Nat → Int32 := fillG (upd (upd (upd f (12 + 3 * b + 0) (nI p)) (12 + 3 * b + 1) (nI p)) (12 + 3 * b + 2) a) b 0
def proA (f : Nat → Int32) (b : Nat) : Nat → Int32 :=
  laysF (upd (upd (upd (upd (upd (upd f 0 (nI (apN f b))) 4 (f 4 + nI (lost f b))) 2 (f 2 + nI 1)) 9 0) 10 0) 11 0) b (apN f b) (nI (if apN f b < rN f then 1 else 0))
def proB (f : Nat → Int32) (o p : Nat) : Nat → Int32 := fillG (upd f (12 + 3 * o + 0) (nI (if rcN f o ≤ p then rcN f o else p))) o p
def proC (f : Nat → Int32) (o p : Nat) : Nat → Int32 := if apN f o ≤ p then f else upd (upd f (12 + 3 * o + 1) (nI p)) (12 + 3 * o + 2) (nI 1)
def proF (f : Nat → Int32) (b : Nat) : Nat → Int32 := proC (proB (proA f b) (1 - b) (apN f b)) (1 - b) (apN f b)
def oPromote (f : Nat → Int32) (b : Int32) : Op := if isB b then if sbf f b.toNatClampNeg 2 = nI 1 then bad f cNP else (true, nI (lost f b.toNatClampNeg), proF f b.toNatClampNeg) else bad f cIA
def oRebuild (f : Nat → Int32) (b : Int32) : Op := if isB b then (true, nI (rN f), laysF f b.toNatClampNeg (rN f) (nI 0)) else bad f cIA
def oSet (f : Nat → Int32) (w v : Int32) : Op := if nI 0 ≤ w ∧ w ≤ nI 1 then if nI 1 - w ≤ v ∧ v ≤ nI 20 then (true, f (7 + w.toNatClampNeg), upd f (7 + w.toNatClampNeg) v) else bad f cIA else bad f cIA
def cpi (f g : Nat → Int32) (p i : Nat) : Nat → Int32 := fun j => if j < i then g (718 * p + j) else f j
theorem cpi_step (f g : Nat → Int32) (p i : Nat) : upd (cpi f g p i) i (g (718 * p + i)) = cpi f g p (i + 1) := by
  funext j
  simp only [upd, cpi]
  by_cases h : j = i
  · subst h; rw [if_pos rfl, if_pos (by omega)]
  · rw [if_neg h]
    by_cases h2 : j < i
    · rw [if_pos h2, if_pos (by omega)]
    · rw [if_neg h2, if_neg (by omega)]
theorem cpi_0 (f g : Nat → Int32) (p : Nat) : f = cpi f g p 0 := by funext j; simp only [cpi]; rw [if_neg (by omega)]
/-! InvA stays -/
theorem InvA_congr {f f' : Nat → Int32} (h : ∀ k, k = 0 ∨ k = 7 ∨ (12 ≤ k ∧ k < 18) → f' k = f k) (hI : InvA f) : InvA f' := by
  have e0 := h 0 (by omega)
  have e7 := h 7 (by omega)
  have es : ∀ b w, b < 2 → w < 3 → sbf f' b w = sbf f b w := fun b w hb hw => h _ (by omega)
  obtain ⟨h1, h2, h3, h4, h5⟩ := hI
  have er : rN f' = rN f := by unfold rN; rw [e0]
  have et : rtN f' = rtN f := by unfold rtN; rw [e7]
  refine ⟨by rw [e0, er]; exact h1, by rw [er]; exact h2, fun b hb => ?_, by rw [e7, et]; exact h4, by rw [et]; exact h5⟩
  have ec : rcN f' b = rcN f b := by unfold rcN; rw [es b 0 hb (by omega)]
  have ea : apN f' b = apN f b := by unfold apN; rw [es b 1 hb (by omega)]
  rw [ec, ea, er, es b 0 hb (by omega), es b 1 hb (by omega)]
  exact h3 b hb
theorem InvA_tickU {f : Nat → Int32} (h : InvA f) : InvA (tickU f) := InvA_congr (fun k hk => by simp only [tickU, upd]; rw [if_neg (by omega)]) h
theorem InvA_tickB {f : Nat → Int32} {b : Nat} (hb : b < 2) (h : InvA f) : InvA (tickB f b) := by
  obtain ⟨h1, h2, h3, h4, h5⟩ := h
  obtain ⟨a1, a2, a3, a4⟩ := h3 b hb
  have hg : apN f b + gB f b ≤ rcN f b := goesA_rc a1 (by omega) _ _ _ a3
  have en : ∀ k, k ≠ 12 + 3 * b + 1 → tickB f b k = f k := fun k hk => by simp only [tickB, upd]; rw [if_neg hk]
  have es : tickB f b (12 + 3 * b + 1) = nI (apN f b + gB f b) := by simp only [tickB, upd]; rw [if_pos trivial]
  have er : rN (tickB f b) = rN f := by unfold rN; rw [en 0 (by omega)]
  have et : rtN (tickB f b) = rtN f := by unfold rtN; rw [en 7 (by omega)]
  refine ⟨by rw [en 0 (by omega), er]; exact h1, by rw [er]; exact h2, fun c hc => ?_, by rw [en 7 (by omega), et]; exact h4, by rw [et]; exact h5⟩
  have e0 : sbf (tickB f b) c 0 = sbf f c 0 := en _ (by omega)
  have ec : rcN (tickB f b) c = rcN f c := by unfold rcN; rw [e0]
  by_cases hcb : c = b
  · subst hcb
    have ea : sbf (tickB f c) c 1 = nI (apN f c + gB f c) := es
    have eb : apN (tickB f c) c = apN f c + gB f c := by unfold apN; rw [ea, nI_clamp (by omega)]; rfl
    rw [e0, ec, ea, eb, er]
    exact ⟨a1, rfl, hg, a4⟩
  · have ea : sbf (tickB f b) c 1 = sbf f c 1 := en _ (by omega)
    have eb : apN (tickB f b) c = apN f c := by unfold apN; rw [ea]
    rw [e0, ec, ea, eb, er]
    exact h3 c hc
theorem InvA_tickK {f : Nat → Int32} (h : InvA f) (i : Nat) : InvA (tickK f i) := by
  induction i with
  | zero => exact h
  | succ i ih => exact InvA_tickB (b := 1) (by omega) (InvA_tickB (b := 0) (by omega) (InvA_tickU ih))
theorem proA_o {f : Nat → Int32} {b w : Nat} (hb : b < 2) (hw : w < 3) : proA f b (15 - 3 * b + w) = f (15 - 3 * b + w) := by
  simp only [proA, laysF, fillG, upd]
  rw [if_neg (by omega), if_neg (by omega), if_neg (by omega), if_neg (by omega), if_neg (by omega), if_neg (by omega), if_neg (by omega), if_neg (by omega), if_neg (by omega), if_neg (by omega)]
theorem sbf_o (f : Nat → Int32) {b w : Nat} (hb : b < 2) : sbf f (1 - b) w = f (15 - 3 * b + w) := by
  unfold sbf; congr 1; omega
theorem rcN_proA {f : Nat → Int32} {b : Nat} (hb : b < 2) : rcN (proA f b) (1 - b) = rcN f (1 - b) := by
  unfold rcN; rw [sbf_o _ hb, sbf_o _ hb, proA_o hb (by omega)]
theorem proB_o {F : Nat → Int32} {b p w : Nat} (hb : b < 2) (hw : w < 3) (h1 : 1 ≤ w) : proB F (1 - b) p (15 - 3 * b + w) = F (15 - 3 * b + w) := by
  simp only [proB, fillG, upd]
  rw [if_neg (by omega), if_neg (by omega)]
theorem apN_proB {f : Nat → Int32} {b p : Nat} (hb : b < 2) : apN (proB (proA f b) (1 - b) p) (1 - b) = apN f (1 - b) := by
  unfold apN; rw [sbf_o _ hb, sbf_o _ hb, proB_o hb (by omega) (by omega), proA_o hb (by omega)]
theorem lowG_pos {f : Nat → Int32} {b : Nat} (h : 0 ≤ lowG f b) : ¬ lowGap f b 100 0 = 0 ∧ lowG f b = nI (lowGap f b 100 0) := by
  unfold lowG at h ⊢
  by_cases q : lowGap f b 100 0 = 0
  · rw [if_pos q] at h; exact absurd h (by decide)
  · exact ⟨q, if_neg q⟩
theorem lowG_neg {f : Nat → Int32} {b : Nat} (h : ¬ 0 ≤ lowG f b) : lowGap f b 100 0 = 0 := by
  unfold lowG at h
  by_cases q : lowGap f b 100 0 = 0
  · exact q
  · rw [if_neg q] at h
    have := lowGap_le f b 100 0
    exact absurd (nI_pos' (by omega)) h
def unF (f g : Nat → Int32) (p : Nat) : Nat → Int32 := if p = 0 then f else cpi f g (p - 1) 718
def aUndo (p : Nat) : Int32 := if p = 0 then cNP else nI (p - 1)
def cp1 (x y : Nat → Int32) (i : Nat) : Nat → Int32 := fun j => if j < i then x j else y j
theorem cp1_0 (x y : Nat → Int32) : y = cp1 x y 0 := by funext j; simp only [cp1]; rw [if_neg (by omega)]
theorem cp1_step (x y : Nat → Int32) (i : Nat) : upd (cp1 x y i) i (x i) = cp1 x y (i + 1) := by
  funext j
  simp only [upd, cp1]
  by_cases h : j = i
  · subst h; rw [if_pos rfl, if_pos (by omega)]
  · rw [if_neg h]
    by_cases h2 : j < i
    · rw [if_pos h2, if_pos (by omega)]
    · rw [if_neg h2, if_neg (by omega)]
abbrev isCh (ch : Int32) : Prop := nI 32 ≤ ch ∧ ch ≤ nI 126
def aType (ty : Nat) (ch : Int32) : Int32 := if isCh ch then if ty = 60 then cLR else nI (ty + 1) else cIA
def tyT (tx : Nat → Int32) (ty : Nat) (ch : Int32) : Nat → Int32 := if isCh ch then if ty = 60 then tx else upd tx ty ch else tx
def tyN (ty : Nat) (ch : Int32) : Nat := if isCh ch then if ty = 60 then ty else ty + 1 else ty
/-! the text's orders -/
abbrev isAtP (tx : Nat → Int32) (ty sp : Nat) (a b : Int32) : Prop := sp < ty ∧ (a ≤ tx sp ∧ tx sp ≤ b)
def sgN (tx : Nat → Int32) (ty sp : Nat) (c : Int32) : Nat := if isAtP tx ty sp c c then sp + 1 else sp
def numLen (tx : Nat → Int32) (ty : Nat) : Nat → Nat → Nat
  | 0, _ => 0
  | k + 1, sp => if isAtP tx ty sp (nI 48) (nI 57) then numLen tx ty k (sp + 1) + 1 else 0
def numV (tx : Nat → Int32) (sp : Nat) : Nat → Int32
  | 0 => 0
  | k + 1 => nI 10 * numV tx sp k + tx (sp + k) - nI 48
theorem numLen_le (tx : Nat → Int32) (ty k sp : Nat) (h : sp ≤ ty) : sp + numLen tx ty k sp ≤ ty ∧ numLen tx ty k sp ≤ k := by
  induction k generalizing sp with
  | zero => exact ⟨h, Nat.le_refl _⟩
  | succ k ih =>
    simp only [numLen]
    split
    · next q => have := ih (sp + 1) q.1; omega
    · omega
theorem upd_upd (f : Nat → Int32) (k : Nat) (x y : Int32) : upd (upd f k x) k y = upd f k y := by
  funext j; simp only [upd]; split <;> rfl
abbrev R3 : Type := Bool × Nat × (Nat → Int32)
def rdNum (tx : Nat → Int32) (ty w : Nat) (r : R3) : R3 := if r.1 = true then (decide (0 < numLen tx ty 3 r.2.1), r.2.1 + numLen tx ty 3 r.2.1, upd r.2.2 w (numV tx r.2.1 (numLen tx ty 3 r.2.1))) else r
def rdSig (tx : Nat → Int32) (ty : Nat) (c : Int32) (r : R3) : R3 := if r.1 = true then (decide (isAtP tx ty r.2.1 c c), sgN tx ty r.2.1 c, r.2.2) else r
def rdOrd (tx : Nat → Int32) (ty sp : Nat) : Int32 := if isAtP tx ty sp (nI 33) (nI 126) then tx sp else nI 0
abbrev oneO (o : Int32) : Prop := o = nI 111 ∨ o = nI 99 ∨ o = nI 97 ∨ o = nI 116
def rdC (tx : Nat → Int32) (ty : Nat) (o : Int32) (r : R3) : R3 := if oneO o then r else rdNum tx ty 1 (rdSig tx ty (nI 44) r)
def rdP (tx : Nat → Int32) (ty : Nat) (o : Int32) (r : R3) : R3 := if o = nI 112 then rdNum tx ty 2 (rdSig tx ty (nI 61) r) else r
def rd (tx : Nat → Int32) (ty sp : Nat) (td : Nat → Int32) : R3 :=
  if oneO (rdOrd tx ty sp) ∨ rdOrd tx ty sp = nI 112 ∨ rdOrd tx ty sp = nI 115 then
    rdSig tx ty (nI 59) (rdP tx ty (rdOrd tx ty sp) (rdC tx ty (rdOrd tx ty sp) (rdNum tx ty 0 (true, sp + 1, td))))
  else (false, sp, td)
theorem sgN_le (tx : Nat → Int32) (ty sp : Nat) (c : Int32) (h : sp ≤ ty) : sp ≤ sgN tx ty sp c ∧ sgN tx ty sp c ≤ ty := by
  unfold sgN; split
  · next q => have := q.1; omega
  · omega
theorem rdNum_le {tx : Nat → Int32} {ty w : Nat} {r : R3} (h : r.2.1 ≤ ty) : r.2.1 ≤ (rdNum tx ty w r).2.1 ∧ (rdNum tx ty w r).2.1 ≤ ty := by
  unfold rdNum; split
  · have := numLen_le tx ty 3 r.2.1 h; exact ⟨Nat.le_add_right _ _, this.1⟩
  · exact ⟨Nat.le_refl _, h⟩
theorem rdSig_le {tx : Nat → Int32} {ty : Nat} {c : Int32} {r : R3} (h : r.2.1 ≤ ty) : r.2.1 ≤ (rdSig tx ty c r).2.1 ∧ (rdSig tx ty c r).2.1 ≤ ty := by
  unfold rdSig; split
  · exact sgN_le tx ty r.2.1 c h
  · exact ⟨Nat.le_refl _, h⟩
theorem rdOrd_lt {tx : Nat → Int32} {ty sp : Nat} (h : oneO (rdOrd tx ty sp) ∨ rdOrd tx ty sp = nI 112 ∨ rdOrd tx ty sp = nI 115) : sp < ty := by
  unfold rdOrd at h
  by_cases q : isAtP tx ty sp (nI 33) (nI 126)
  · exact q.1
  · rw [if_neg q] at h
    rcases h with (h | h | h | h) | h | h <;> exact absurd h (by decide)
theorem rd_le {tx : Nat → Int32} {ty sp : Nat} {td : Nat → Int32} (h : sp ≤ ty) : sp ≤ (rd tx ty sp td).2.1 ∧ (rd tx ty sp td).2.1 ≤ ty ∧ ((rd tx ty sp td).1 = true → sp < (rd tx ty sp td).2.1) := by
  unfold rd
  by_cases c : oneO (rdOrd tx ty sp) ∨ rdOrd tx ty sp = nI 112 ∨ rdOrd tx ty sp = nI 115
  · rw [if_pos c]
    have h0 : sp < ty := rdOrd_lt c
    have a1 := rdNum_le (tx := tx) (w := 0) (r := (true, sp + 1, td)) (ty := ty) h0
    have a2 : (rdNum tx ty 0 (true, sp + 1, td)).2.1 ≤ (rdC tx ty (rdOrd tx ty sp) (rdNum tx ty 0 (true, sp + 1, td))).2.1 ∧ (rdC tx ty (rdOrd tx ty sp) (rdNum tx ty 0 (true, sp + 1, td))).2.1 ≤ ty := by
      unfold rdC; split
      · exact ⟨Nat.le_refl _, a1.2⟩
      · have b1 := rdSig_le (c := nI 44) (tx := tx) a1.2
        have b2 := rdNum_le (w := 1) (tx := tx) b1.2
        exact ⟨Nat.le_trans b1.1 b2.1, b2.2⟩
    have a3 : (rdC tx ty (rdOrd tx ty sp) (rdNum tx ty 0 (true, sp + 1, td))).2.1 ≤ (rdP tx ty (rdOrd tx ty sp) (rdC tx ty (rdOrd tx ty sp) (rdNum tx ty 0 (true, sp + 1, td)))).2.1 ∧ (rdP tx ty (rdOrd tx ty sp) (rdC tx ty (rdOrd tx ty sp) (rdNum tx ty 0 (true, sp + 1, td)))).2.1 ≤ ty := by
      unfold rdP; split
      · have b1 := rdSig_le (c := nI 61) (tx := tx) a2.2
        have b2 := rdNum_le (w := 2) (tx := tx) b1.2
        exact ⟨Nat.le_trans b1.1 b2.1, b2.2⟩
      · exact ⟨Nat.le_refl _, a2.2⟩
    have a4 := rdSig_le (c := nI 59) (tx := tx) a3.2
    have a1' : sp + 1 ≤ (rdNum tx ty 0 (true, sp + 1, td)).2.1 := a1.1
    exact ⟨by omega, a4.2, fun _ => by omega⟩
  · rw [if_neg c]; exact ⟨Nat.le_refl _, h, fun q => absurd q Bool.false_ne_true⟩
def opCall (f : Nat → Int32) (o : Int32) (td : Nat → Int32) : Op :=
  if o = nI 97 then oWr f 2 (td 0) cNF cNF else if o = nI 99 then oWr f 1 (td 0) cNF cNF else if o = nI 111 then oOpen f (td 0) else if o = nI 112 then oPut f (td 0) (td 1) (td 2) else if o = nI 115 then oShip f (td 0) (td 1) else oTick f (td 0)
abbrev sixO (o : Int32) : Prop := o = nI 97 ∨ o = nI 99 ∨ o = nI 111 ∨ o = nI 112 ∨ o = nI 115 ∨ o = nI 116
theorem rd_six {tx : Nat → Int32} {ty sp : Nat} {td : Nat → Int32} (h : (rd tx ty sp td).1 = true) : sixO (rdOrd tx ty sp) := by
  unfold rd at h
  by_cases c : oneO (rdOrd tx ty sp) ∨ rdOrd tx ty sp = nI 112 ∨ rdOrd tx ty sp = nI 115
  · rcases c with (c | c | c | c) | c | c
    · exact Or.inr (Or.inr (Or.inl c))
    · exact Or.inr (Or.inl c)
    · exact Or.inl c
    · exact Or.inr (Or.inr (Or.inr (Or.inr (Or.inr c))))
    · exact Or.inr (Or.inr (Or.inr (Or.inl c)))
    · exact Or.inr (Or.inr (Or.inr (Or.inr (Or.inl c))))
  · rw [if_neg c] at h; exact absurd h Bool.false_ne_true
/-- the player: store, spot, told, whether all went, from, reason, cause, orders, order -/
abbrev PS : Type := (Nat → Int32) × Nat × (Nat → Int32) × Bool × Int32 × Int32 × Int32 × Int32 × Int32
abbrev PS.f (x : PS) := x.1
abbrev PS.sp (x : PS) := x.2.1
abbrev PS.td (x : PS) := x.2.2.1
abbrev PS.ok (x : PS) := x.2.2.2.1
abbrev PS.fr (x : PS) := x.2.2.2.2.1
abbrev PS.re (x : PS) := x.2.2.2.2.2.1
abbrev PS.ca (x : PS) := x.2.2.2.2.2.2.1
abbrev PS.os (x : PS) := x.2.2.2.2.2.2.2.1
abbrev PS.o (x : PS) := x.2.2.2.2.2.2.2.2
def plStep (tx : Nat → Int32) (ty : Nat) (x : PS) : PS :=
  if (rd tx ty x.sp x.td).1 = true then
    ((opCall x.f (rdOrd tx ty x.sp) (rd tx ty x.sp x.td).2.2).2.2, (rd tx ty x.sp x.td).2.1, (rd tx ty x.sp x.td).2.2, decide (0 ≤ (opCall x.f (rdOrd tx ty x.sp) (rd tx ty x.sp x.td).2.2).2.1), nI x.sp, nI 2, (opCall x.f (rdOrd tx ty x.sp) (rd tx ty x.sp x.td).2.2).2.1, x.os + nI 1, rdOrd tx ty x.sp)
  else (x.f, (rd tx ty x.sp x.td).2.1, (rd tx ty x.sp x.td).2.2, false, nI x.sp, nI 1, nI ((rd tx ty x.sp x.td).2.1 - x.sp), x.os + nI 1, rdOrd tx ty x.sp)
def plRun (tx : Nat → Int32) (ty : Nat) : Nat → PS → PS
  | 0, x => x
  | k + 1, x => if x.sp < ty ∧ x.ok = true then plRun tx ty k (plStep tx ty x) else x
theorem plRun_stop {tx : Nat → Int32} {ty k : Nat} {x : PS} (h : ¬ (x.sp < ty ∧ x.ok = true)) : plRun tx ty k x = x := by
  cases k with
  | zero => rfl
  | succ k => simp only [plRun]; rw [if_neg h]
def f0 : Nat → Int32 := upd (upd (upd (fun _ => 0) 2 (nI 1)) 7 (nI 4)) 8 (nI 2)
theorem rdNum_t {tx : Nat → Int32} {ty w s : Nat} {t : Nat → Int32} (h : 0 < numLen tx ty 3 s) : rdNum tx ty w (true, s, t) = (true, s + numLen tx ty 3 s, upd t w (numV tx s (numLen tx ty 3 s))) := by
  show (decide _, _, _) = _; rw [decide_eq_true h]
theorem rdNum_f {tx : Nat → Int32} {ty w s : Nat} {t : Nat → Int32} (h : ¬ 0 < numLen tx ty 3 s) : rdNum tx ty w (true, s, t) = (false, s + numLen tx ty 3 s, upd t w (numV tx s (numLen tx ty 3 s))) := by
  show (decide _, _, _) = _; rw [decide_eq_false h]
theorem rdNum_0 {tx : Nat → Int32} {ty w s : Nat} {t : Nat → Int32} : rdNum tx ty w (false, s, t) = (false, s, t) := rfl
theorem rdSig_t {tx : Nat → Int32} {ty s : Nat} {c : Int32} {t : Nat → Int32} (h : isAtP tx ty s c c) : rdSig tx ty c (true, s, t) = (true, sgN tx ty s c, t) := by
  show (decide _, _, _) = _; rw [decide_eq_true h]
theorem rdSig_f {tx : Nat → Int32} {ty s : Nat} {c : Int32} {t : Nat → Int32} (h : ¬ isAtP tx ty s c c) : rdSig tx ty c (true, s, t) = (false, sgN tx ty s c, t) := by
  show (decide _, _, _) = _; rw [decide_eq_false h]
theorem rdSig_0 {tx : Nat → Int32} {ty s : Nat} {c : Int32} {t : Nat → Int32} : rdSig tx ty c (false, s, t) = (false, s, t) := rfl
theorem rdC_1 {tx : Nat → Int32} {ty : Nat} {o : Int32} {r : R3} (h : oneO o) : rdC tx ty o r = r := if_pos h
theorem rdC_2 {tx : Nat → Int32} {ty : Nat} {o : Int32} {r : R3} (h : ¬ oneO o) : rdC tx ty o r = rdNum tx ty 1 (rdSig tx ty (nI 44) r) := if_neg h
theorem rdC_0 {tx : Nat → Int32} {ty s : Nat} {o : Int32} {t : Nat → Int32} : rdC tx ty o (false, s, t) = (false, s, t) := by unfold rdC; split <;> rfl
theorem rdP_1 {tx : Nat → Int32} {ty : Nat} {o : Int32} {r : R3} (h : o = nI 112) : rdP tx ty o r = rdNum tx ty 2 (rdSig tx ty (nI 61) r) := if_pos h
theorem rdP_2 {tx : Nat → Int32} {ty : Nat} {o : Int32} {r : R3} (h : ¬ o = nI 112) : rdP tx ty o r = r := if_neg h
theorem rdP_0 {tx : Nat → Int32} {ty s : Nat} {o : Int32} {t : Nat → Int32} : rdP tx ty o (false, s, t) = (false, s, t) := by unfold rdP; split <;> rfl
theorem rd_1 {tx : Nat → Int32} {ty sp : Nat} {td : Nat → Int32} {o : Int32} (ho : rdOrd tx ty sp = o) (h : oneO o ∨ o = nI 112 ∨ o = nI 115) : rd tx ty sp td = rdSig tx ty (nI 59) (rdP tx ty o (rdC tx ty o (rdNum tx ty 0 (true, sp + 1, td)))) := by
  subst ho; exact if_pos h
theorem rd_2 {tx : Nat → Int32} {ty sp : Nat} {td : Nat → Int32} {o : Int32} (ho : rdOrd tx ty sp = o) (h : ¬ (oneO o ∨ o = nI 112 ∨ o = nI 115)) : rd tx ty sp td = (false, sp, td) := by
  subst ho; exact if_neg h
/-! InvA under the player's orders -/
theorem InvA_mk {f : Nat → Int32} (n rt : Nat) (rc ap : Nat → Nat) (h0 : f 0 = nI n) (hn : n ≤ 100) (hs : ∀ b, b < 2 → sbf f b 0 = nI (rc b) ∧ sbf f b 1 = nI (ap b) ∧ ap b ≤ rc b ∧ rc b ≤ n) (h7 : f 7 = nI rt) (hr : rt ≤ 20) : InvA f := by
  have e : rN f = n := by unfold rN; rw [h0, nI_clamp (by omega)]
  have e7 : rtN f = rt := by unfold rtN; rw [h7, nI_clamp (by omega)]
  refine ⟨by rw [e]; exact h0, by rw [e]; exact hn, fun b hb => ?_, by rw [e7]; exact h7, by rw [e7]; exact hr⟩
  obtain ⟨a1, a2, a3, a4⟩ := hs b hb
  have ec : rcN f b = rc b := by unfold rcN; rw [a1, nI_clamp (by omega)]
  have ea : apN f b = ap b := by unfold apN; rw [a2, nI_clamp (by omega)]
  rw [e, ec, ea]
  exact ⟨a1, a2, a3, a4⟩
theorem InvA_open {f : Nat → Int32} {sl : Int32} (h : InvA f) : InvA (oOpen f sl).2.2 := by
  unfold oOpen
  by_cases c : isS sl
  · rw [if_pos c]
    by_cases c2 : f (9 + sl.toNatClampNeg) ≤ 0
    · rw [if_pos c2]
      obtain ⟨j, hj, rfl⟩ := zr_of (N := 2) c (by decide)
      rw [nI_clamp (by omega)]
      refine InvA_congr (fun k hk => ?_) h
      simp only [upd]
      rw [if_neg (by omega), if_neg (by omega)]
    · rw [if_neg c2]; exact h
  · rw [if_neg c]; exact h
theorem InvA_wrF {f : Nat → Int32} {kind j : Nat} {key v : Int32} (hj : j ≤ 2) (hn : rN f < 100) (h : InvA f) : InvA (wrF f kind j key v) := by
  obtain ⟨h1, h2, h3, h4, h5⟩ := h
  have en : ∀ k, k ≠ 0 → k < 213 → k ≠ 9 + j → wrF f kind j key v k = f k := fun k q1 q2 q3 => by
    simp only [wrF, upd]
    rw [if_neg (by omega), if_neg (by omega), if_neg (by omega), if_neg (by omega), if_neg (by omega), if_neg (by omega), if_neg (by omega)]
  have e0 : wrF f kind j key v 0 = nI (rN f + 1) := by
    simp only [wrF, upd]
    rw [if_neg (by omega), if_neg (by omega), if_neg (by omega), if_neg (by omega), if_neg (by omega), if_neg (by omega), if_pos trivial]
  refine InvA_mk (rN f + 1) (rtN f) (rcN f) (apN f) e0 (by omega) (fun b hb => ?_) (by rw [en 7 (by omega) (by omega) (by omega)]; exact h4) h5
  obtain ⟨a1, a2, a3, a4⟩ := h3 b hb
  refine ⟨?_, ?_, a3, by omega⟩
  · unfold sbf; rw [en _ (by omega) (by omega) (by omega)]; exact a1
  · unfold sbf; rw [en _ (by omega) (by omega) (by omega)]; exact a2
theorem InvA_wr {f : Nat → Int32} {kind : Nat} {sl key v : Int32} (h : InvA f) : InvA (oWr f kind sl key v).2.2 := by
  unfold oWr
  by_cases c : 0 ≤ aBar f sl
  · rw [if_pos c]
    obtain ⟨q1, q2, q3⟩ := aBar_ok c
    obtain ⟨j, hj, rfl⟩ := zr_of (N := 2) q1 (by decide)
    have hn9 : rN f < 100 := by
      rcases Nat.lt_or_ge (rN f) 100 with q | q
      · exact q
      · exact absurd (by rw [h.1, show rN f = 100 by have := h.2.1; omega]) q3
    show InvA (wrF f kind (nI j).toNatClampNeg key v)
    rw [nI_clamp (by omega)]
    exact InvA_wrF hj hn9 h
  · rw [if_neg c]; exact h
theorem InvA_put {f : Nat → Int32} {sl key v : Int32} (h : InvA f) : InvA (oPut f sl key v).2.2 := by
  unfold oPut
  by_cases c : isK key
  · rw [if_pos c]
    by_cases c2 : nI 0 ≤ v ∧ v ≤ nI 999
    · rw [if_pos c2]; exact InvA_wr h
    · rw [if_neg c2]; exact h
  · rw [if_neg c]; exact h
theorem shipN_le (f : Nat → Int32) (b k : Nat) : shipN f b k ≤ rN f - rcN f b := by unfold shipN; split <;> omega
theorem InvA_ship {f : Nat → Int32} {sb k : Int32} (h : InvA f) : InvA (oShip f sb k).2.2 := by
  unfold oShip
  by_cases c : isB sb
  · rw [if_pos c]
    by_cases c2 : nI 1 ≤ k ∧ k ≤ nI 20
    · rw [if_pos c2]
      by_cases c3 : sbf f sb.toNatClampNeg 2 = nI 1
      · rw [if_pos c3]; exact h
      · rw [if_neg c3]
        obtain ⟨b, hb, rfl⟩ := zr_of (N := 1) c (by decide)
        rw [nI_clamp (show b < 2 ^ 31 by omega)]
        obtain ⟨h1, h2, h3, h4, h5⟩ := h
        have hs := shipN_le f b k.toNatClampNeg
        refine InvA_mk (rN f) (rtN f) (fun c => if c = b then rcN f b + shipN f b k.toNatClampNeg else rcN f c) (apN f) ?_ h2 (fun c hc => ?_) ?_ h5
        · show upd _ _ _ 0 = _
          simp only [upd]; rw [if_neg (by omega)]; exact h1
        · obtain ⟨a1, a2, a3, a4⟩ := h3 c hc
          refine ⟨?_, ?_, ?_, ?_⟩
          · show upd _ _ _ _ = _
            simp only [upd]
            by_cases e : c = b
            · rw [if_pos (by rw [e]), if_pos e]
            · rw [if_neg (by omega), if_neg e]; exact a1
          · show upd _ _ _ _ = _
            simp only [upd]; rw [if_neg (by omega)]; exact a2
          · show apN f c ≤ if c = b then _ else _
            split
            · next e => subst e; omega
            · exact a3
          · show (if c = b then _ else _) ≤ _
            split
            · next e => subst e; omega
            · exact a4
        · show upd _ _ _ 7 = _
          simp only [upd]; rw [if_neg (by omega)]; exact h4
    · rw [if_neg c2]; exact h
  · rw [if_neg c]; exact h
theorem InvA_tick {f : Nat → Int32} {t : Int32} (h : InvA f) : InvA (oTick f t).2.2 := by
  unfold oTick
  by_cases c : nI 1 ≤ t ∧ t ≤ nI 99
  · rw [if_pos c]
    exact InvA_congr (fun k hk => by simp only [upd]; rw [if_neg (by omega)]) (InvA_tickK h t.toNatClampNeg)
  · rw [if_neg c]; exact h
theorem InvA_call {f : Nat → Int32} {o : Int32} {td : Nat → Int32} (h : InvA f) : InvA (opCall f o td).2.2 := by
  unfold opCall
  split
  · exact InvA_wr h
  · split
    · exact InvA_wr h
    · split
      · exact InvA_open h
      · split
        · exact InvA_put h
        · split
          · exact InvA_ship h
          · exact InvA_tick h
theorem plStep_t {tx : Nat → Int32} {ty : Nat} {x : PS} (h : (rd tx ty x.sp x.td).1 = true) : plStep tx ty x = ((opCall x.f (rdOrd tx ty x.sp) (rd tx ty x.sp x.td).2.2).2.2, (rd tx ty x.sp x.td).2.1, (rd tx ty x.sp x.td).2.2, decide (0 ≤ (opCall x.f (rdOrd tx ty x.sp) (rd tx ty x.sp x.td).2.2).2.1), nI x.sp, nI 2, (opCall x.f (rdOrd tx ty x.sp) (rd tx ty x.sp x.td).2.2).2.1, x.os + nI 1, rdOrd tx ty x.sp) := if_pos h
theorem plStep_f {tx : Nat → Int32} {ty : Nat} {x : PS} (h : ¬ (rd tx ty x.sp x.td).1 = true) : plStep tx ty x = (x.f, (rd tx ty x.sp x.td).2.1, (rd tx ty x.sp x.td).2.2, false, nI x.sp, nI 1, nI ((rd tx ty x.sp x.td).2.1 - x.sp), x.os + nI 1, rdOrd tx ty x.sp) := if_neg h
theorem plStep_sp {tx : Nat → Int32} {ty : Nat} {x : PS} : (plStep tx ty x).sp = (rd tx ty x.sp x.td).2.1 := by
  unfold plStep; split <;> rfl
theorem plStep_ok {tx : Nat → Int32} {ty : Nat} {x : PS} (h : (plStep tx ty x).ok = true) : (rd tx ty x.sp x.td).1 = true := by
  by_cases c : (rd tx ty x.sp x.td).1 = true
  · exact c
  · rw [plStep_f c] at h; exact absurd h Bool.false_ne_true
theorem plRun_more {tx : Nat → Int32} {ty : Nat} (k : Nat) : ∀ x : PS, x.sp ≤ ty → (x.ok = true → ty - x.sp ≤ k) → plRun tx ty k x = plRun tx ty (k + 1) x := by
  induction k with
  | zero =>
    intro x h1 h2
    rw [plRun_stop (k := 1) (fun q => by have := h2 q.2; have := q.1; omega)]
    rfl
  | succ k ih =>
    intro x h1 h2
    by_cases c : x.sp < ty ∧ x.ok = true
    · have e1 : plRun tx ty (k + 1) x = plRun tx ty k (plStep tx ty x) := if_pos c
      have e2 : plRun tx ty (k + 1 + 1) x = plRun tx ty (k + 1) (plStep tx ty x) := if_pos c
      rw [e1, e2]
      have hl := rd_le (tx := tx) (td := x.td) h1
      refine ih _ (by rw [plStep_sp]; exact hl.2.1) (fun q => ?_)
      have := hl.2.2 (plStep_ok q)
      have := h2 c.2
      rw [plStep_sp]
      omega
    · rw [plRun_stop c, plRun_stop c]
/-- the player's end -/
def plEnd (tx : Nat → Int32) (ty : Nat) (x : PS) : PS := plRun tx ty (ty + 1) x
theorem plEnd_step {tx : Nat → Int32} {ty : Nat} {x : PS} (h : x.sp < ty) (ho : x.ok = true) : plEnd tx ty x = plEnd tx ty (plStep tx ty x) := by
  have e : plRun tx ty (ty + 1) x = plRun tx ty ty (plStep tx ty x) := if_pos ⟨h, ho⟩
  have hl := rd_le (tx := tx) (td := x.td) (Nat.le_of_lt h)
  unfold plEnd
  rw [e]
  exact plRun_more ty _ (by rw [plStep_sp]; exact hl.2.1) (fun _ => by omega)
theorem plEnd_stop {tx : Nat → Int32} {ty : Nat} {x : PS} (h : ¬ (x.sp < ty ∧ x.ok = true)) : plEnd tx ty x = x := plRun_stop h
theorem gG_1 {ok : Bool} {f g : Nat → Int32} {p : Nat} : gG ok (nI 1) f g p = g := by
  unfold gG; split
  · exact chG_r (by decide)
  · rfl
theorem gP_1 {ok : Bool} {p : Nat} : gP ok (nI 1) p = p := by
  unfold gP; split
  · exact chP_r (by decide)
  · rfl
theorem InvA_plRun {tx : Nat → Int32} {ty : Nat} (k : Nat) : ∀ x : PS, InvA x.f → InvA (plRun tx ty k x).f := by
  induction k with
  | zero => intro x h; exact h
  | succ k ih =>
    intro x h
    by_cases c : x.sp < ty ∧ x.ok = true
    · have e1 : plRun tx ty (k + 1) x = plRun tx ty k (plStep tx ty x) := if_pos c
      rw [e1]
      refine ih _ ?_
      unfold plStep; split
      · exact InvA_call h
      · exact h
    · rw [plRun_stop c]; exact h
/-- the player's start; the answers -/
def ps0 (f td : Nat → Int32) (a b o : Int32) : PS := (f, 0, td, true, nI 0, a, b, nI 0, o)
def aFaultW (x : PS) (w : Int32) : Int32 := if x.ok = true then cNF else if w = 0 then x.fr else if w = nI 1 then x.re else x.ca
theorem chP_le {v4 : Int32} {p : Nat} (h : p ≤ 4) : chP v4 p ≤ 4 := by
  unfold chP
  split
  · split <;> omega
  · exact h
