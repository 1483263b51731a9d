/-! a BitSet of two words as one number -/
def lwd (W : Nat) : Nat → Int64 := fun k => if k = 0 then lN (W % 2 ^ 64) else if k = 1 then lN (W / 2 ^ 64) else 0
def uOf (W : Nat) : Nat := if 2 ^ 64 ≤ W then 2 else if W = 0 then 0 else 1
theorem uOf_c (W : Nat) : (uOf W = 0 ∧ W = 0) ∨ (uOf W = 1 ∧ 1 ≤ W ∧ W < 2 ^ 64) ∨ (uOf W = 2 ∧ 2 ^ 64 ≤ W) := by
  unfold uOf
  by_cases h : 2 ^ 64 ≤ W
  · rw [if_pos h]; exact Or.inr (Or.inr ⟨rfl, h⟩)
  · rw [if_neg h]
    by_cases h0 : W = 0
    · rw [if_pos h0]; exact Or.inl ⟨rfl, h0⟩
    · rw [if_neg h0]; exact Or.inr (Or.inl ⟨rfl, by omega, by omega⟩)
theorem uOf_1 {W : Nat} (h : 1 ≤ W) (h2 : W < 2 ^ 64) : uOf W = 1 := by rcases uOf_c W with q | q | q <;> omega
theorem uOf_2 {W : Nat} (h : 2 ^ 64 ≤ W) : uOf W = 2 := by rcases uOf_c W with q | q | q <;> omega
theorem lwd_0 (W : Nat) : lwd W 0 = lN (W % 2 ^ 64) := rfl
theorem lwd_1 (W : Nat) : lwd W 1 = lN (W / 2 ^ 64) := rfl
theorem lwd_z : (fun _ => 0 : Nat → Int64) = lwd 0 := by
  funext k
  unfold lwd
  by_cases h : k = 0
  · rw [if_pos h]; rfl
  · rw [if_neg h]
    by_cases h1 : k = 1
    · rw [if_pos h1]; rfl
    · rw [if_neg h1]
theorem lwd_u0 {W a : Nat} (ha : a < 2 ^ 64) : vp_updL (lwd W) 0 (lN a) = lwd (a + 2 ^ 64 * (W / 2 ^ 64)) := by
  funext k
  simp only [vp_updL, lwd]
  by_cases h : k = 0
  · rw [if_pos h, if_pos h, Nat.add_mul_mod_self_left, Nat.mod_eq_of_lt ha]
  · rw [if_neg h, if_neg h, if_neg h, Nat.add_mul_div_left _ _ (Nat.two_pow_pos 64), Nat.div_eq_of_lt ha, Nat.zero_add]
theorem lwd_u1 {W b : Nat} : vp_updL (lwd W) 1 (lN b) = lwd (W % 2 ^ 64 + 2 ^ 64 * b) := by
  funext k
  simp only [vp_updL, lwd]
  by_cases h : k = 0
  · subst h
    rw [if_neg (by decide), if_pos rfl, if_pos rfl, Nat.add_mul_mod_self_left, Nat.mod_mod]
  · rw [if_neg h]
    by_cases h1 : k = 1
    · rw [if_pos h1, if_neg h, if_pos h1, Nat.add_mul_div_left _ _ (Nat.two_pow_pos 64), Nat.div_eq_of_lt (Nat.mod_lt _ (Nat.two_pow_pos 64)), Nat.zero_add]
    · rw [if_neg h1, if_neg h1, if_neg h, if_neg h1]
theorem lN_inj64 {a b : Nat} (ha : a < 2 ^ 64) (hb : b < 2 ^ 64) : lN a = lN b ↔ a = b :=
  ⟨fun h => by have := congrArg (fun z : Int64 => z.toBitVec.toNat) h; simp only [wb_tn ha, wb_tn hb] at this; exact this, fun h => by rw [h]⟩
theorem bw_sh : ∀ i, i < 128 → lN 1 <<< ((nI i).toInt64 &&& 63) = lN (2 ^ (i % 64)) := by decide +kernel
theorem bw_mo : ∀ i, i < 128 → (-1 : Int64) <<< ((nI i).toInt64 &&& 63) = lN (2 ^ 64 - 2 ^ (i % 64)) := by decide +kernel
theorem lwd_at {W i : Nat} (hi : i < 128) (hW : W < 2 ^ 101) : ∃ w, w < 2 ^ 64 ∧ lwd W (i / 64) = lN w ∧ (∀ j, j < 64 → w.testBit j = W.testBit (64 * (i / 64) + j)) := by
  rcases Nat.lt_or_ge i 64 with h | h
  · rw [show i / 64 = 0 by omega]
    refine ⟨W % 2 ^ 64, Nat.mod_lt _ (Nat.two_pow_pos 64), rfl, fun j hj => ?_⟩
    rw [Nat.testBit_mod_two_pow, decide_eq_true hj, Bool.true_and]
    congr 1; omega
  · rw [show i / 64 = 1 by omega]
    refine ⟨W / 2 ^ 64, by omega, rfl, fun j hj => ?_⟩
    rw [Nat.testBit_div_two_pow]
    congr 1; omega
theorem bw_bit {W i : Nat} (hi : i < 128) (hW : W < 2 ^ 101) : (lwd W (i / 64) &&& lN (2 ^ (i % 64))) = lN 0 ↔ W.testBit i = false := by
  obtain ⟨w, h1, h2, h3⟩ := lwd_at hi hW
  have h4 : 2 ^ (i % 64) < 2 ^ 64 := Nat.pow_lt_pow_right (by decide) (Nat.mod_lt _ (by decide))
  rw [h2, wb_and h1 h4, lN_inj64 (Nat.and_lt_two_pow _ h4) (by decide), fb_bit_nat, h3 _ (Nat.mod_lt _ (by decide)), show 64 * (i / 64) + i % 64 = i by omega]
theorem bw_off {W i : Nat} (hW : W < 2 ^ 101) (h : uOf W ≤ i / 64) : W.testBit i = false := by
  rcases uOf_c W with q | q | q
  · rw [q.2]; exact Nat.zero_testBit i
  · exact Nat.testBit_lt_two_pow (Nat.lt_of_lt_of_le q.2.2 (Nat.pow_le_pow_right (by decide) (by omega)))
  · exact Nat.testBit_lt_two_pow (Nat.lt_of_lt_of_le hW (Nat.pow_le_pow_right (by decide) (by omega)))
theorem or_lt {W i n : Nat} (h : W < 2 ^ n) (hi : i < n) : W ||| 2 ^ i < 2 ^ n := Nat.or_lt_two_pow h (Nat.pow_lt_pow_right (by decide) hi)
theorem bw_set {W i : Nat} (hi : i < 128) (hW : W < 2 ^ 101) : vp_updL (lwd W) (i / 64) (lwd W (i / 64) ||| lN (2 ^ (i % 64))) = lwd (W ||| 2 ^ i) := by
  have h4 : 2 ^ (i % 64) < 2 ^ 64 := Nat.pow_lt_pow_right (by decide) (Nat.mod_lt _ (by decide))
  rcases Nat.lt_or_ge i 64 with h | h
  · rw [show i / 64 = 0 by omega, show i % 64 = i by omega, lwd_0, wb_or (Nat.mod_lt _ (Nat.two_pow_pos 64)) (by rw [show i = i % 64 by omega]; exact h4), lwd_u0 (Nat.or_lt_two_pow (Nat.mod_lt _ (Nat.two_pow_pos 64)) (by rw [show i = i % 64 by omega]; exact h4))]
    congr 1
    apply Nat.eq_of_testBit_eq
    intro j
    rw [Nat.add_comm, Nat.testBit_two_pow_mul_add _ (Nat.or_lt_two_pow (Nat.mod_lt _ (Nat.two_pow_pos 64)) (by rw [show i = i % 64 by omega]; exact h4)), Nat.testBit_or, Nat.testBit_or]
    by_cases hj : j < 64
    · rw [if_pos hj, Nat.testBit_mod_two_pow, decide_eq_true hj, Bool.true_and]
    · rw [if_neg hj, Nat.testBit_div_two_pow, Nat.testBit_two_pow, decide_eq_false (show ¬ i = j by omega), Bool.or_false]
      congr 1; omega
  · rw [show i / 64 = 1 by omega, lwd_1, wb_or (by omega) h4, lwd_u1]
    congr 1
    apply Nat.eq_of_testBit_eq
    intro j
    rw [Nat.add_comm, Nat.testBit_two_pow_mul_add _ (Nat.mod_lt _ (Nat.two_pow_pos 64)), Nat.testBit_or]
    by_cases hj : j < 64
    · rw [if_pos hj, Nat.testBit_mod_two_pow, decide_eq_true hj, Bool.true_and, Nat.testBit_or, Nat.testBit_two_pow, decide_eq_false (show ¬ i = j by omega), Bool.or_false]
    · rw [if_neg hj, Nat.testBit_or, Nat.testBit_div_two_pow, show j - 64 + 64 = j by omega, Nat.testBit_two_pow, Nat.testBit_two_pow]
      congr 1
      exact decide_eq_decide.mpr (by omega)
theorem bw_setu {W i : Nat} (hi : i < 101) (hW : W < 2 ^ 101) : (if uOf W < i / 64 + 1 then i / 64 + 1 else uOf W) = uOf (W ||| 2 ^ i) := by
  have hle : W ≤ W ||| 2 ^ i := Nat.left_le_or
  have hle2 : 2 ^ i ≤ W ||| 2 ^ i := Nat.right_le_or
  have hp := Nat.two_pow_pos i
  rcases Nat.lt_or_ge i 64 with h | h
  · rcases uOf_c W with q | q | q
    · rw [if_pos (by omega), uOf_1 (W := W ||| 2 ^ i) (by omega) (or_lt (by omega) h)]; omega
    · rw [if_neg (by omega), uOf_1 (W := W ||| 2 ^ i) (by omega) (or_lt q.2.2 h)]; omega
    · rw [if_neg (by omega), uOf_2 (W := W ||| 2 ^ i) (by omega)]; omega
  · have h6 : 2 ^ 64 ≤ 2 ^ i := Nat.pow_le_pow_right (by decide) h
    rw [uOf_2 (W := W ||| 2 ^ i) (by omega)]
    rcases uOf_c W with q | q | q
    · rw [if_pos (by omega)]; omega
    · rw [if_pos (by omega)]; omega
    · rw [if_neg (by omega)]; omega
def pc64 (w : Nat) : Nat := fb_ct (fun i => w.testBit i) 64
/-- how many bits are set -/
def pcN (W : Nat) : Nat := fb_ct (fun i => W.testBit i) 101
theorem pcN_w {W : Nat} (hW : W < 2 ^ 101) : pc64 (W % 2 ^ 64) + pc64 (W / 2 ^ 64) = pcN W := by
  unfold pc64
  have h1 : fb_ct (fun i => (W % 2 ^ 64).testBit i) 64 = fb_ct (fun i => W.testBit i) 64 := fb_ct_cong (fun k hk => by show (W % 2 ^ 64).testBit k = _; rw [Nat.testBit_mod_two_pow, decide_eq_true hk, Bool.true_and])
  have h2 : fb_ct (fun i => (W / 2 ^ 64).testBit i) 64 = fb_ct (fun k => W.testBit (64 + k)) 64 := fb_ct_cong (fun k hk => by show (W / 2 ^ 64).testBit k = _; rw [Nat.testBit_div_two_pow, Nat.add_comm])
  have h3 := fb_ct_split (fun i => W.testBit i) 64 64
  have h4 := fb_ct_split (fun i => W.testBit i) 101 27
  have h5 : fb_ct (fun k => W.testBit (101 + k)) 27 = 0 := fb_ct_zero.2 (fun k hk => Nat.testBit_lt_two_pow (Nat.lt_of_lt_of_le hW (Nat.pow_le_pow_right (by decide) (by omega))))
  unfold pcN
  rw [h1, h2]
  have e1 : fb_ct (fun i => W.testBit i) (64 + 64) = fb_ct (fun i => W.testBit i) (101 + 27) := rfl
  rw [← h3, e1, h4, h5, Nat.add_zero]
/-! the count of bits of a word, as Long.bitCount has it: byte by byte -/
theorem land_split {a b c d n : Nat} (ha : a < 2 ^ n) (hc : c < 2 ^ n) : (a + 2 ^ n * b) &&& (c + 2 ^ n * d) = (a &&& c) + 2 ^ n * (b &&& d) := by
  apply Nat.eq_of_testBit_eq
  intro j
  rw [Nat.testBit_and, Nat.add_comm a, Nat.add_comm c, Nat.add_comm (a &&& c), Nat.testBit_two_pow_mul_add _ ha, Nat.testBit_two_pow_mul_add _ hc, Nat.testBit_two_pow_mul_add _ (Nat.and_lt_two_pow _ hc)]
  by_cases hj : j < n
  · rw [if_pos hj, if_pos hj, if_pos hj, Nat.testBit_and]
  · rw [if_neg hj, if_neg hj, if_neg hj, Nat.testBit_and]
theorem half_b : ∀ a, a < 256 → ∀ c, c < 2 → ((a / 2 + 128 * c) &&& 0x55) = (a / 2) &&& 0x55 ∧ ((a / 2) &&& 0x55) ≤ a := by decide +kernel
theorem four_b : ∀ a, a < 256 → ∀ c, c < 4 → ((a / 4 + 64 * c) &&& 0x33) = (a / 4) &&& 0x33 := by decide +kernel
def M5 : Nat → Nat
  | 0 => 0
  | n + 1 => 0x55 + 256 * M5 n
def M3 : Nat → Nat
  | 0 => 0
  | n + 1 => 0x33 + 256 * M3 n
def M0 : Nat → Nat
  | 0 => 0
  | n + 1 => 0x0F + 256 * M0 n
def q1 (a : Nat) : Nat := a - ((a / 2) &&& 0x55)
def q2 (a : Nat) : Nat := (a &&& 0x33) + ((a / 4) &&& 0x33)
def q3 (a : Nat) : Nat := (a + a / 16) &&& 0x0F
theorem q_ok : ∀ a, a < 256 → q1 a < 256 ∧ q2 (q1 a) % 16 ≤ 4 ∧ q2 (q1 a) / 16 ≤ 4 ∧ q3 (q2 (q1 a)) = fb_ct (fun i => a.testBit i) 8 := by decide +kernel
/-- the bytes of a number, put together -/
def dg (f : Nat → Nat) : Nat → Nat
  | 0 => 0
  | n + 1 => f 0 + 256 * dg (fun k => f (k + 1)) n
theorem dg_lt : ∀ (n : Nat) (f : Nat → Nat), (∀ k, f k < 256) → dg f n < 256 ^ n
  | 0, f, h => by simp [dg]
  | n + 1, f, h => by
    have h1 := dg_lt n (fun k => f (k + 1)) (fun k => h (k + 1))
    have h2 := h 0
    show f 0 + 256 * dg _ n < 256 ^ (n + 1)
    rw [Nat.pow_succ]; omega
theorem dg_1 : ∀ (n : Nat) (f : Nat → Nat), (∀ k, f k < 256) → ((dg f n / 2) &&& M5 n) ≤ dg f n ∧ dg f n - ((dg f n / 2) &&& M5 n) = dg (fun k => q1 (f k)) n
  | 0, f, h => by simp [dg, M5]
  | n + 1, f, h => by
    obtain ⟨h1, h2⟩ := dg_1 n (fun k => f (k + 1)) (fun k => h (k + 1))
    have h3 := h 0
    generalize hy : dg (fun k => f (k + 1)) n = y at h1 h2
    have e : (dg f (n + 1)) = f 0 + 256 * y := by show f 0 + 256 * dg _ n = _; rw [hy]
    have eM : M5 (n + 1) = 0x55 + 2 ^ 8 * M5 n := rfl
    have e2 : (f 0 + 256 * y) / 2 = (f 0 / 2 + 128 * (y % 2)) + 2 ^ 8 * (y / 2) := by omega
    have hb := half_b (f 0) h3 (y % 2) (Nat.mod_lt _ (by decide))
    have e3 : ((f 0 + 256 * y) / 2) &&& M5 (n + 1) = ((f 0 / 2) &&& 0x55) + 256 * ((y / 2) &&& M5 n) := by
      rw [e2, eM, land_split (by omega) (by decide), hb.1]
    rw [e, e3]
    have e5 : dg (fun k => q1 (f k)) (n + 1) = q1 (f 0) + 256 * dg (fun k => q1 (f (k + 1))) n := rfl
    rw [e5]
    have e6 : dg (fun k => q1 (f (k + 1))) n = y - ((y / 2) &&& M5 n) := h2.symm
    rw [e6]
    have := hb.2
    unfold q1
    omega
theorem dg_2 : ∀ (n : Nat) (f : Nat → Nat), (∀ k, f k < 256) → (dg f n &&& M3 n) + ((dg f n / 4) &&& M3 n) = dg (fun k => q2 (f k)) n
  | 0, f, h => by simp [dg, M3]
  | n + 1, f, h => by
    have h2 := dg_2 n (fun k => f (k + 1)) (fun k => h (k + 1))
    have h3 := h 0
    generalize hy : dg (fun k => f (k + 1)) n = y at h2
    have e : (dg f (n + 1)) = f 0 + 2 ^ 8 * y := by show f 0 + 256 * dg _ n = _; rw [hy]
    have eM : M3 (n + 1) = 0x33 + 2 ^ 8 * M3 n := rfl
    have e2 : (f 0 + 2 ^ 8 * y) / 4 = (f 0 / 4 + 64 * (y % 4)) + 2 ^ 8 * (y / 4) := by omega
    have hb := four_b (f 0) h3 (y % 4) (Nat.mod_lt _ (by decide))
    rw [e, e2, eM, land_split h3 (by decide), land_split (by omega) (by decide), hb]
    have e5 : dg (fun k => q2 (f k)) (n + 1) = q2 (f 0) + 256 * dg (fun k => q2 (f (k + 1))) n := rfl
    rw [e5, ← h2]
    unfold q2
    omega
theorem low4 : ∀ x, x < 256 → x &&& 0x0F = x % 16 := by decide +kernel
theorem dg_3 : ∀ (n : Nat) (f : Nat → Nat), (∀ k, f k % 16 ≤ 4 ∧ f k / 16 ≤ 4) → ((dg f n + dg f n / 16) &&& M0 n) = dg (fun k => q3 (f k)) n ∧ dg f n % 16 ≤ 4
  | 0, f, h => by simp [dg, M0]
  | n + 1, f, h => by
    obtain ⟨h2, h4⟩ := dg_3 n (fun k => f (k + 1)) (fun k => h (k + 1))
    have h3 := h 0
    generalize hy : dg (fun k => f (k + 1)) n = y at h2 h4
    have e : (dg f (n + 1)) = f 0 + 256 * y := by show f 0 + 256 * dg _ n = _; rw [hy]
    have eM : M0 (n + 1) = 0x0F + 2 ^ 8 * M0 n := rfl
    have e2 : (f 0 + 256 * y) + (f 0 + 256 * y) / 16 = (f 0 + f 0 / 16 + 16 * (y % 16)) + 2 ^ 8 * (y + y / 16) := by omega
    rw [e, e2, eM, land_split (by omega) (by decide), low4 _ (by omega)]
    have e5 : dg (fun k => q3 (f k)) (n + 1) = q3 (f 0) + 256 * dg (fun k => q3 (f (k + 1))) n := rfl
    rw [e5, ← h2]
    refine ⟨?_, by omega⟩
    unfold q3
    rw [low4 _ (by omega)]
    omega
def bc1 (w : Nat) : Nat := w - ((w / 2 ^ 1) &&& 6148914691236517205)
def bc2 (w : Nat) : Nat := (w &&& 3689348814741910323) + ((w / 2 ^ 2) &&& 3689348814741910323)
def bc3 (w : Nat) : Nat := (w + w / 2 ^ 4) &&& 1085102592571150095
def bc4 (w : Nat) : Nat := w + w / 2 ^ 8
def bc5 (w : Nat) : Nat := w + w / 2 ^ 16
def bc6 (w : Nat) : Nat := w + w / 2 ^ 32
theorem bc1_lt {w : Nat} (h : w < 2 ^ 64) : bc1 w < 2 ^ 64 := Nat.lt_of_le_of_lt (Nat.sub_le _ _) h
theorem bc2_le (w : Nat) : bc2 w ≤ 7378697629483820646 := by
  unfold bc2
  have h1 : w &&& 3689348814741910323 ≤ 3689348814741910323 := Nat.and_le_right
  have h2 : (w / 2 ^ 2) &&& 3689348814741910323 ≤ 3689348814741910323 := Nat.and_le_right
  omega
theorem bc3_le (w : Nat) : bc3 w ≤ 1085102592571150095 := Nat.and_le_right
theorem bc4_le (w : Nat) : bc4 (bc3 w) < 2 ^ 62 := by have := bc3_le w; unfold bc4; omega
theorem bc5_le (w : Nat) : bc5 (bc4 (bc3 w)) < 2 ^ 63 := by have := bc4_le w; unfold bc5; omega
theorem bc6_le (w : Nat) : bc6 (bc5 (bc4 (bc3 w))) < 2 ^ 64 := by have := bc5_le w; unfold bc6; omega
def byt (w k : Nat) : Nat := w / 256 ^ k % 256
theorem dg_byt : ∀ (n w : Nat), w < 256 ^ n → dg (byt w) n = w
  | 0, w, h => by simp at h; simp [dg, h]
  | n + 1, w, h => by
    have h1 := dg_byt n (w / 256) (by rw [Nat.pow_succ] at h; omega)
    have e : (fun k => byt w (k + 1)) = byt (w / 256) := by
      funext k
      unfold byt
      rw [Nat.div_div_eq_div_mul, Nat.pow_succ, Nat.mul_comm]
    show byt w 0 + 256 * dg (fun k => byt w (k + 1)) n = w
    rw [e, h1]
    unfold byt
    omega
theorem fold8 {c0 c1 c2 c3 c4 c5 c6 c7 : Nat} (h0 : c0 ≤ 8) (h1 : c1 ≤ 8) (h2 : c2 ≤ 8) (h3 : c3 ≤ 8) (h4 : c4 ≤ 8) (h5 : c5 ≤ 8) (h6 : c6 ≤ 8) (h7 : c7 ≤ 8) :
    bc6 (bc5 (bc4 (c0 + 256 * (c1 + 256 * (c2 + 256 * (c3 + 256 * (c4 + 256 * (c5 + 256 * (c6 + 256 * c7))))))))) % 128 = c0 + c1 + c2 + c3 + c4 + c5 + c6 + c7 := by
  have e4 : bc4 (c0 + 256 * (c1 + 256 * (c2 + 256 * (c3 + 256 * (c4 + 256 * (c5 + 256 * (c6 + 256 * c7))))))) = (c0 + c1) + 256 * ((c1 + c2) + 256 * ((c2 + c3) + 256 * ((c3 + c4) + 256 * ((c4 + c5) + 256 * ((c5 + c6) + 256 * ((c6 + c7) + 256 * c7)))))) := by
    unfold bc4
    have : (c0 + 256 * (c1 + 256 * (c2 + 256 * (c3 + 256 * (c4 + 256 * (c5 + 256 * (c6 + 256 * c7))))))) / 2 ^ 8 = c1 + 256 * (c2 + 256 * (c3 + 256 * (c4 + 256 * (c5 + 256 * (c6 + 256 * c7))))) := by omega
    rw [this]; omega
  rw [e4]
  generalize ha : c0 + c1 = a0
  generalize hb : c1 + c2 = a1
  generalize hc : c2 + c3 = a2
  generalize hd : c3 + c4 = a3
  generalize he : c4 + c5 = a4
  generalize hf : c5 + c6 = a5
  generalize hg : c6 + c7 = a6
  have e5 : bc5 (a0 + 256 * (a1 + 256 * (a2 + 256 * (a3 + 256 * (a4 + 256 * (a5 + 256 * (a6 + 256 * c7))))))) = (a0 + a2) + 256 * ((a1 + a3) + 256 * ((a2 + a4) + 256 * ((a3 + a5) + 256 * ((a4 + a6) + 256 * ((a5 + c7) + 256 * (a6 + 256 * c7)))))) := by
    unfold bc5
    have : (a0 + 256 * (a1 + 256 * (a2 + 256 * (a3 + 256 * (a4 + 256 * (a5 + 256 * (a6 + 256 * c7))))))) / 2 ^ 16 = a2 + 256 * (a3 + 256 * (a4 + 256 * (a5 + 256 * (a6 + 256 * c7)))) := by omega
    rw [this]; omega
  rw [e5]
  generalize hA : a0 + a2 = b0
  generalize hB : a4 + a6 = b4
  generalize hB1 : a1 + a3 = b1
  generalize hB2 : a2 + a4 = b2
  generalize hB3 : a3 + a5 = b3
  generalize hB5 : a5 + c7 = b5
  have e6 : bc6 (b0 + 256 * (b1 + 256 * (b2 + 256 * (b3 + 256 * (b4 + 256 * (b5 + 256 * (a6 + 256 * c7))))))) % 128 = (b0 + 256 * (b1 + 256 * (b2 + 256 * b3)) + (b4 + 256 * (b5 + 256 * (a6 + 256 * c7))) + 4294967296 * (b4 + 256 * (b5 + 256 * (a6 + 256 * c7)))) % 128 := by
    have l0 : b0 ≤ 32 := by omega
    have l1 : b1 ≤ 32 := by omega
    have l2 : b2 ≤ 32 := by omega
    have l3 : b3 ≤ 32 := by omega
    clear e4 e5 ha hb hc hd he hf hg hA hB hB1 hB2 hB3 hB5
    unfold bc6
    have : (b0 + 256 * (b1 + 256 * (b2 + 256 * (b3 + 256 * (b4 + 256 * (b5 + 256 * (a6 + 256 * c7))))))) / 2 ^ 32 = b4 + 256 * (b5 + 256 * (a6 + 256 * c7)) := by omega
    rw [this]; congr 1; omega
  rw [e6]
  omega
theorem ct8 (w k : Nat) : fb_ct (fun i => (byt w k).testBit i) 8 = fb_ct (fun i => w.testBit (8 * k + i)) 8 := fb_ct_cong (fun i hi => by
  show (byt w k).testBit i = w.testBit (8 * k + i)
  unfold byt
  rw [show (256 : Nat) = 2 ^ 8 by rfl, ← Nat.pow_mul, Nat.testBit_mod_two_pow, decide_eq_true hi, Bool.true_and, Nat.testBit_div_two_pow]
  congr 1; omega)
theorem ct64 (w : Nat) : fb_ct (fun i => (byt w 0).testBit i) 8 + fb_ct (fun i => (byt w 1).testBit i) 8 + fb_ct (fun i => (byt w 2).testBit i) 8 + fb_ct (fun i => (byt w 3).testBit i) 8 + fb_ct (fun i => (byt w 4).testBit i) 8 + fb_ct (fun i => (byt w 5).testBit i) 8 + fb_ct (fun i => (byt w 6).testBit i) 8 + fb_ct (fun i => (byt w 7).testBit i) 8 = fb_ct (fun i => w.testBit i) 64 := by
  rw [ct8, ct8, ct8, ct8, ct8, ct8, ct8, ct8]
  have s := fun m => fb_ct_split (fun i => w.testBit i) (8 * m) 8
  have e0 : fb_ct (fun i => w.testBit (8 * 0 + i)) 8 = fb_ct (fun i => w.testBit i) 8 := fb_ct_cong (fun i hi => by show w.testBit (8 * 0 + i) = _; congr 1; omega)
  rw [e0]
  have a1 := s 1
  have a2 := s 2
  have a3 := s 3
  have a4 := s 4
  have a5 := s 5
  have a6 := s 6
  have a7 := s 7
  simp only [Nat.reduceMul, Nat.reduceAdd] at a1 a2 a3 a4 a5 a6 a7 ⊢
  omega
theorem byt_lt (w k : Nat) : byt w k < 256 := Nat.mod_lt _ (by decide)
theorem bcN_ok {w : Nat} (h : w < 2 ^ 64) : bc6 (bc5 (bc4 (bc3 (bc2 (bc1 w))))) % 128 = pc64 w := by
  unfold pc64
  have e0 : dg (byt w) 8 = w := dg_byt 8 w (by rw [show 256 ^ 8 = 2 ^ 64 by decide]; exact h)
  have e1 : bc1 w = dg (fun k => q1 (byt w k)) 8 := by
    have := (dg_1 8 (byt w) (byt_lt w)).2
    rw [e0] at this
    exact this
  have hq := fun k => q_ok (byt w k) (byt_lt w k)
  have e2 : bc2 (bc1 w) = dg (fun k => q2 (q1 (byt w k))) 8 := by
    rw [e1]; exact dg_2 8 _ (fun k => (hq k).1)
  have e3 : bc3 (bc2 (bc1 w)) = dg (fun k => q3 (q2 (q1 (byt w k)))) 8 := by
    rw [e2]; exact (dg_3 8 _ (fun k => ⟨(hq k).2.1, (hq k).2.2.1⟩)).1
  have e4 : (fun k => q3 (q2 (q1 (byt w k)))) = fun k => fb_ct (fun i => (byt w k).testBit i) 8 := funext fun k => (hq k).2.2.2
  rw [e3, e4, ← ct64]
  have hc := fun k => fb_ct_le (fun i => (byt w k).testBit i) 8
  exact fold8 (hc 0) (hc 1) (hc 2) (hc 3) (hc 4) (hc 5) (hc 6) (hc 7)
theorem l2i_n (n : Nat) : (lN n).toInt32 = nI n := by
  apply Int32.toBitVec_inj.1
  apply BitVec.eq_of_toNat_eq
  show (BitVec.signExtend 32 (BitVec.ofNat 64 n)).toNat = (BitVec.ofNat 32 n).toNat
  simp [BitVec.signExtend_eq_setWidth_of_le]
theorem and127 (n : Nat) : nI n &&& nI 127 = nI (n % 128) := fa_mask n 7
theorem lwd_lt {W k : Nat} (hW : W < 2 ^ 101) (hk : k < 2) : ∃ w, w < 2 ^ 64 ∧ lwd W k = lN w := by
  rcases (show k = 0 ∨ k = 1 by omega) with rfl | rfl
  · exact ⟨_, Nat.mod_lt _ (Nat.two_pow_pos 64), rfl⟩
  · exact ⟨W / 2 ^ 64, by omega, rfl⟩
theorem lwd_c1 {W : Nat} : vp_updL (lwd W) 1 (lN 0) = lwd (W % 2 ^ 64) := by
  rw [lwd_u1, Nat.mul_zero, Nat.add_zero]
theorem lwd_c0 {W : Nat} (h : W < 2 ^ 64) : vp_updL (lwd W) 0 (lN 0) = lwd 0 := by
  rw [lwd_u0 (by decide), Nat.div_eq_of_lt h, Nat.mul_zero]
theorem nbf {b : Bool} (h : ¬ b = false) : b = true := by cases b with
  | false => exact absurd rfl h
  | true => rfl
theorem pcN_0 : pcN 0 = 0 := by unfold pcN; exact fb_ct_zero.2 (fun k _ => Nat.zero_testBit k)
theorem pcN_1 {W : Nat} (h : W < 2 ^ 64) : pc64 (W % 2 ^ 64) = pcN W := by
  have h1 := pcN_w (W := W) (by omega)
  have h2 : pc64 (W / 2 ^ 64) = 0 := by unfold pc64; exact fb_ct_zero.2 (fun k _ => by show (W / 2 ^ 64).testBit k = false; rw [Nat.div_eq_of_lt h, Nat.zero_testBit])
  omega
theorem lwd_cpy1 {W : Nat} (h : W < 2 ^ 64) : va_cpy (lwd W) (lwd 0) 0 0 1 = lwd W := by
  funext k
  unfold va_cpy
  by_cases hk : k = 0
  · subst hk; rfl
  · rw [if_neg (by omega)]
    unfold lwd
    rw [if_neg hk, if_neg hk]
    by_cases h1 : k = 1
    · rw [if_pos h1, if_pos h1, Nat.div_eq_of_lt h]
    · rw [if_neg h1, if_neg h1]
theorem lwd_cpy2 {W : Nat} : va_cpy (lwd W) (lwd 0) 0 0 2 = lwd W := by
  funext k
  unfold va_cpy
  by_cases hk : k < 2
  · rw [if_pos (by omega)]; congr 1; omega
  · rw [if_neg (by omega)]
    unfold lwd
    rw [if_neg (by omega), if_neg (by omega), if_neg (by omega), if_neg (by omega)]
theorem ush_n {v k : Nat} (hv : v < 2 ^ 32) (hk : k < 32) : ((nI v).toUInt32 >>> ((nI k).toUInt32 &&& Int32.toUInt32 31)).toInt32 = nI (v / 2 ^ k) := by
  have e : ∀ k, k < 32 → ((nI k).toUInt32 &&& Int32.toUInt32 31) = UInt32.ofNat k := by decide +kernel
  rw [e k hk]
  apply Int32.toBitVec_inj.1
  apply BitVec.eq_of_toNat_eq
  show ((nI v).toUInt32 >>> UInt32.ofNat k).toNat = (BitVec.ofNat 32 _).toNat
  have h1 : (UInt32.ofNat k).toNat = k := by
    show (BitVec.ofNat 32 k).toNat = k
    rw [BitVec.toNat_ofNat, Nat.mod_eq_of_lt (by omega)]
  have h2 : (nI v).toUInt32.toNat = v := by
    show (BitVec.ofNat 32 v).toNat = v
    rw [BitVec.toNat_ofNat, Nat.mod_eq_of_lt hv]
  rw [UInt32.toNat_shiftRight, h1, h2, Nat.mod_eq_of_lt hk, Nat.shiftRight_eq_div_pow, BitVec.toNat_ofNat, Nat.mod_eq_of_lt (Nat.lt_of_le_of_lt (Nat.div_le_self _ _) hv)]
theorem nI_big {v : Nat} (h1 : 2 ^ 31 ≤ v) (h2 : v < 2 ^ 32) : nI v < 0 := by
  rw [Int32.lt_iff_toInt_lt]
  show (BitVec.ofNat 32 v).toInt < (0 : Int32).toInt
  rw [BitVec.toInt_eq_toNat_cond, BitVec.toNat_ofNat, Nat.mod_eq_of_lt h2, if_neg (by omega)]
  show (v : Int) - 2 ^ 32 < 0
  omega
theorem nI_m32 (v : Nat) : nI v = nI (v % 2 ^ 32) := by
  apply Int32.toBitVec_inj.1
  apply BitVec.eq_of_toNat_eq
  show (BitVec.ofNat 32 v).toNat = (BitVec.ofNat 32 _).toNat
  rw [BitVec.toNat_ofNat, BitVec.toNat_ofNat, Nat.mod_mod]
theorem nlz_hi {w r : Nat} (h1 : r ≤ 31) (h : w / 2 ^ 32 < 2 ^ (32 - r)) : w < 2 ^ (64 - r) := by
  rw [show 64 - r = 32 - r + 32 by omega, Nat.pow_add]
  exact (Nat.div_lt_iff_lt_mul (Nat.two_pow_pos 32)).1 h
def mk64 (r : Nat) : Nat := if r % 64 = 0 then 2 ^ 64 - 1 else 2 ^ (r % 64) - 1
theorem bw_ml : ∀ r, r < 128 → ((-1 : Int64).toUInt64 >>> ((-(nI r)).toInt64.toUInt64 &&& Int64.toUInt64 63)).toInt64 = lN (mk64 r) := by decide +kernel
theorem mo_bit : ∀ k, k < 64 → ∀ j, j < 64 → (lN (2 ^ 64 - 2 ^ k)).toBitVec.getLsbD j = decide (k ≤ j) := by decide +kernel
theorem mk_bit : ∀ r, r < 65 → ∀ j, j < 64 → 1 ≤ r → (lN (mk64 r)).toBitVec.getLsbD j = decide (j < r) := by decide +kernel
theorem mk_101 : ∀ j, j < 64 → (lN (mk64 101)).toBitVec.getLsbD j = decide (j < 37) := by decide +kernel
theorem lN_bit {x j : Nat} (hj : j < 64) : (lN x).toBitVec.getLsbD j = x.testBit j := by
  rw [wb_tb, BitVec.getLsbD_ofNat, decide_eq_true hj, Bool.true_and]
theorem m1_bit : ∀ j, j < 64 → (-1 : Int64).toBitVec.getLsbD j = true := by decide +kernel
theorem cl_ext {x y : Nat} {M : Int64} (h : ∀ j, j < 64 → y.testBit j = (x.testBit j && !M.toBitVec.getLsbD j)) : lN x &&& (M ^^^ (-1)) = lN y := by
  apply wb_inj
  apply BitVec.eq_of_getLsbD_eq
  intro j hj
  rw [Int64.toBitVec_and, Int64.toBitVec_xor, BitVec.getLsbD_and, BitVec.getLsbD_xor, lN_bit hj, lN_bit hj, m1_bit j hj, h j hj, Bool.xor_true]
theorem tb_off {x n j : Nat} (h : x < 2 ^ n) (hj : n ≤ j) : x.testBit j = false := Nat.testBit_lt_two_pow (Nat.lt_of_lt_of_le h (Nat.pow_le_pow_right (by decide) hj))
theorem ts_nt9 {x : Bool} (h : ¬ x = true) : x = false := by cases x <;> first | rfl | exact absurd rfl h
theorem cl_1 {W n r : Nat} (hW : W < 2 ^ 64) (hn : n < 64) (h1 : 1 ≤ r) (h2 : r ≤ 64) (hr : W < 2 ^ r) : vp_updL (lwd W) 0 (lwd W 0 &&& ((lN (2 ^ 64 - 2 ^ (n % 64)) &&& lN (mk64 r)) ^^^ (-1))) = lwd (W % 2 ^ n) := by
  have e : lwd W 0 &&& ((lN (2 ^ 64 - 2 ^ (n % 64)) &&& lN (mk64 r)) ^^^ (-1)) = lN (W % 2 ^ n) := by
    rw [lwd_0, Nat.mod_eq_of_lt hW]
    apply cl_ext
    intro j hj
    rw [Int64.toBitVec_and, BitVec.getLsbD_and, mo_bit _ (Nat.mod_lt _ (by decide)) j hj, mk_bit r (by omega) j hj h1, Nat.testBit_mod_two_pow, Nat.mod_eq_of_lt hn]
    by_cases hb : W.testBit j = true
    · have : j < r := by
        rcases Nat.lt_or_ge j r with q | q
        · exact q
        · rw [tb_off hr q] at hb; exact absurd hb Bool.false_ne_true
      rw [hb, decide_eq_true this]
      by_cases q : j < n
      · rw [decide_eq_true q, decide_eq_false (show ¬ n ≤ j by omega)]; rfl
      · rw [decide_eq_false q, decide_eq_true (show n ≤ j by omega)]; rfl
    · rw [ts_nt9 hb, Bool.and_false, Bool.false_and]
  have hle : W % 2 ^ n ≤ W := Nat.mod_le _ _
  rw [e, lwd_u0 (by omega), Nat.div_eq_of_lt hW, Nat.mul_zero, Nat.add_zero]
theorem cl_2a {W n : Nat} (hn : n < 64) : vp_updL (lwd W) 0 (lwd W 0 &&& (lN (2 ^ 64 - 2 ^ (n % 64)) ^^^ (-1))) = lwd (W % 2 ^ n + 2 ^ 64 * (W / 2 ^ 64)) := by
  have e : lwd W 0 &&& (lN (2 ^ 64 - 2 ^ (n % 64)) ^^^ (-1)) = lN (W % 2 ^ n) := by
    rw [lwd_0]
    apply cl_ext
    intro j hj
    rw [mo_bit _ (Nat.mod_lt _ (by decide)) j hj, Nat.testBit_mod_two_pow, Nat.testBit_mod_two_pow, Nat.mod_eq_of_lt hn, decide_eq_true hj, Bool.true_and]
    by_cases q : j < n
    · rw [decide_eq_true q, decide_eq_false (show ¬ n ≤ j by omega)]; simp
    · rw [decide_eq_false q, decide_eq_true (show n ≤ j by omega)]; simp
  have : W % 2 ^ n < 2 ^ 64 := Nat.lt_of_lt_of_le (Nat.mod_lt _ (Nat.two_pow_pos n)) (Nat.pow_le_pow_right (by decide) (by omega))
  rw [e, lwd_u0 this]
theorem cl_2b {W n : Nat} (hW : W < 2 ^ 101) (hn : n < 64) : vp_updL (lwd (W % 2 ^ n + 2 ^ 64 * (W / 2 ^ 64))) 1 (lwd (W % 2 ^ n + 2 ^ 64 * (W / 2 ^ 64)) 1 &&& (lN (mk64 101) ^^^ (-1))) = lwd (W % 2 ^ n) := by
  have h5 : W % 2 ^ n < 2 ^ 64 := Nat.lt_of_lt_of_le (Nat.mod_lt _ (Nat.two_pow_pos n)) (Nat.pow_le_pow_right (by decide) (by omega))
  have e1 : (W % 2 ^ n + 2 ^ 64 * (W / 2 ^ 64)) / 2 ^ 64 = W / 2 ^ 64 := by
    rw [Nat.add_mul_div_left _ _ (Nat.two_pow_pos 64), Nat.div_eq_of_lt h5, Nat.zero_add]
  have e2 : (W % 2 ^ n + 2 ^ 64 * (W / 2 ^ 64)) % 2 ^ 64 = W % 2 ^ n := by
    rw [Nat.add_mul_mod_self_left, Nat.mod_eq_of_lt h5]
  have e : lwd (W % 2 ^ n + 2 ^ 64 * (W / 2 ^ 64)) 1 &&& (lN (mk64 101) ^^^ (-1)) = lN 0 := by
    rw [lwd_1, e1]
    apply cl_ext
    intro j hj
    rw [mk_101 j hj, Nat.zero_testBit]
    by_cases q : j < 37
    · rw [decide_eq_true q]; simp
    · rw [tb_off (n := 37) (by omega) (by omega)]; simp
  rw [e, lwd_u1, e2, Nat.mul_zero, Nat.add_zero]
theorem cl_3 {W n : Nat} (hW : W < 2 ^ 101) (hn : 64 ≤ n) (hn2 : n ≤ 101) : vp_updL (lwd W) 1 (lwd W 1 &&& ((lN (2 ^ 64 - 2 ^ (n % 64)) &&& lN (mk64 101)) ^^^ (-1))) = lwd (W % 2 ^ n) := by
  have e : lwd W 1 &&& ((lN (2 ^ 64 - 2 ^ (n % 64)) &&& lN (mk64 101)) ^^^ (-1)) = lN (W / 2 ^ 64 % 2 ^ (n - 64)) := by
    rw [lwd_1]
    apply cl_ext
    intro j hj
    rw [Int64.toBitVec_and, BitVec.getLsbD_and, mo_bit _ (Nat.mod_lt _ (by decide)) j hj, mk_101 j hj, Nat.testBit_mod_two_pow, show n % 64 = n - 64 by omega]
    by_cases hb : (W / 2 ^ 64).testBit j = true
    · have : j < 37 := by
        rcases Nat.lt_or_ge j 37 with q | q
        · exact q
        · rw [tb_off (n := 37) (by omega) q] at hb; exact absurd hb Bool.false_ne_true
      rw [hb, decide_eq_true this]
      by_cases q : j < n - 64
      · rw [decide_eq_true q, decide_eq_false (show ¬ n - 64 ≤ j by omega)]; rfl
      · rw [decide_eq_false q, decide_eq_true (show n - 64 ≤ j by omega)]; rfl
    · rw [ts_nt9 hb, Bool.and_false, Bool.false_and]
  rw [e, lwd_u1]
  congr 1
  apply Nat.eq_of_testBit_eq
  intro j
  rw [Nat.add_comm, Nat.testBit_two_pow_mul_add _ (Nat.mod_lt _ (Nat.two_pow_pos 64)), Nat.testBit_mod_two_pow, Nat.testBit_mod_two_pow, Nat.testBit_mod_two_pow, Nat.testBit_div_two_pow]
  by_cases q : j < 64
  · rw [if_pos q, decide_eq_true q, decide_eq_true (show j < n by omega)]
  · rw [if_neg q, show j - 64 + 64 = j by omega]
    congr 1
    exact decide_eq_decide.mpr (by omega)
theorem mod_all {W n : Nat} (h : W < 2 ^ n) : W % 2 ^ n = W := Nat.mod_eq_of_lt h
theorem uOf_mod (W n : Nat) : uOf (W % 2 ^ n) ≤ uOf W := by
  have := Nat.mod_le W (2 ^ n)
  rcases uOf_c W with q | q | q <;> rcases uOf_c (W % 2 ^ n) with r | r | r <;> omega
theorem nI0_32 {v : Nat} (h : v < 2 ^ 32) : nI v = 0 ↔ v = 0 :=
  ⟨fun q => by
    have h2 : (nI v).toBitVec.toNat = (0 : Int32).toBitVec.toNat := by rw [q]
    have h3 : (nI v).toBitVec.toNat = v := by show (BitVec.ofNat 32 v).toNat = v; rw [BitVec.toNat_ofNat, Nat.mod_eq_of_lt h]
    rw [← h3, h2]; rfl, fun q => by rw [q]; rfl⟩
/-- the lowest bit of a number -/
theorem low_ex {v : Nat} : ∀ n, v < 2 ^ n → 1 ≤ v → ∃ t q, t < n ∧ v = 2 ^ t * (2 * q + 1)
  | 0, h, h1 => by omega
  | n + 1, h, h1 => by
    rcases Nat.mod_two_eq_zero_or_one v with e | e
    · obtain ⟨t, q, h2, h3⟩ := low_ex (v := v / 2) n (by rw [Nat.pow_succ] at h; omega) (by omega)
      refine ⟨t + 1, q, by omega, ?_⟩
      rw [Nat.pow_succ, Nat.mul_right_comm, ← h3]; omega
    · exact ⟨0, v / 2, by omega, by rw [Nat.pow_zero, Nat.one_mul]; omega⟩
theorem low_tb {t q : Nat} : (2 ^ t * (2 * q + 1)).testBit t = true ∧ ∀ j, j < t → (2 ^ t * (2 * q + 1)).testBit j = false := by
  have e : ∀ j, (2 ^ t * (2 * q + 1)).testBit j = if j < t then (0 : Nat).testBit j else (2 * q + 1).testBit (j - t) := fun j => by
    have := Nat.testBit_two_pow_mul_add (2 * q + 1) (b := 0) (i := t) (Nat.two_pow_pos t) j
    rwa [Nat.add_zero] at this
  refine ⟨?_, fun j hj => ?_⟩
  · rw [e, if_neg (by omega), Nat.sub_self, Nat.testBit_zero]; simp
  · rw [e, if_pos hj, Nat.zero_testBit]
theorem low_and {t q : Nat} (h : 2 ^ t * (2 * q + 1) < 2 ^ 32) : (nI (2 ^ t * (2 * q + 1)) ^^^ (-1)) &&& (nI (2 ^ t * (2 * q + 1)) - nI 1) = nI (2 ^ t - 1) := by
  have hp := Nat.two_pow_pos t
  have hx : 1 ≤ 2 ^ t * (2 * q + 1) := Nat.mul_pos hp (by omega)
  rw [pk_sub hx]
  have ht : t < 32 := by
    rcases Nat.lt_or_ge t 32 with z | z
    · exact z
    · have := Nat.pow_le_pow_right (n := 2) (by decide) z
      have h9 : 2 ^ t * 1 ≤ 2 ^ t * (2 * q + 1) := Nat.mul_le_mul_left _ (by omega)
      omega
  have e1 : 2 ^ t * (2 * q + 1) - 1 = 2 ^ t * (2 * q) + (2 ^ t - 1) := by rw [Nat.mul_add, Nat.mul_one]; omega
  apply Int32.toBitVec_inj.1
  apply BitVec.eq_of_getLsbD_eq
  intro j hj
  have m1 : ∀ j, j < 32 → (-1 : Int32).toBitVec.getLsbD j = true := by decide +kernel
  have nb : ∀ x, (nI x).toBitVec.getLsbD j = x.testBit j := fun x => by
    show (BitVec.ofNat 32 x).getLsbD j = _
    rw [BitVec.getLsbD_ofNat, decide_eq_true hj, Bool.true_and]
  rw [Int32.toBitVec_and, Int32.toBitVec_xor, BitVec.getLsbD_and, BitVec.getLsbD_xor, nb, nb, nb, m1 j hj, Bool.xor_true, e1, Nat.testBit_two_pow_mul_add _ (by omega)]
  have e : (2 ^ t * (2 * q + 1)).testBit j = if j < t then (0 : Nat).testBit j else (2 * q + 1).testBit (j - t) := by
    have := Nat.testBit_two_pow_mul_add (2 * q + 1) (b := 0) (i := t) hp j
    rwa [Nat.add_zero] at this
  rw [e, Nat.testBit_two_pow_sub_one]
  by_cases hjt : j < t
  · rw [if_pos hjt, if_pos hjt, Nat.zero_testBit, decide_eq_true hjt]; rfl
  · rw [if_neg hjt, if_neg hjt, decide_eq_false hjt]
    rcases Nat.eq_zero_or_pos (j - t) with z | z
    · rw [z, Nat.testBit_zero, Nat.testBit_zero]; simp
    · obtain ⟨k, hk⟩ : ∃ k, j - t = k + 1 := ⟨j - t - 1, by omega⟩
      rw [hk, Nat.testBit_succ, Nat.testBit_succ, show (2 * q + 1) / 2 = q by omega, show 2 * q / 2 = q by omega]
      cases q.testBit k <;> rfl
def LowB (v r : Nat) : Prop := v.testBit r = true ∧ ∀ j, j < r → v.testBit j = false
theorem LowB.lo {w r : Nat} (hr : r < 32) (h : LowB (w % 2 ^ 32) r) : LowB w r := by
  refine ⟨?_, fun j hj => ?_⟩
  · have := h.1; rw [Nat.testBit_mod_two_pow, decide_eq_true hr, Bool.true_and] at this; exact this
  · have := h.2 j hj; rw [Nat.testBit_mod_two_pow, decide_eq_true (show j < 32 by omega), Bool.true_and] at this; exact this
theorem LowB.hi {w r n : Nat} (h0 : w % 2 ^ n = 0) (h : LowB (w / 2 ^ n) r) : LowB w (n + r) := by
  refine ⟨?_, fun j hj => ?_⟩
  · have := h.1; rw [Nat.testBit_div_two_pow] at this; rw [Nat.add_comm]; exact this
  · rcases Nat.lt_or_ge j n with q | q
    · have := Nat.testBit_mod_two_pow w n j
      rw [h0, Nat.zero_testBit, decide_eq_true q, Bool.true_and] at this
      exact this.symm
    · have := h.2 (j - n) (by omega); rw [Nat.testBit_div_two_pow, show j - n + n = j by omega] at this; exact this
theorem LowB.mo {w r : Nat} (hr : r < 64) (h : LowB (w % 2 ^ 64) r) : LowB w r := by
  refine ⟨?_, fun j hj => ?_⟩
  · have := h.1; rw [Nat.testBit_mod_two_pow, decide_eq_true hr, Bool.true_and] at this; exact this
  · have := h.2 j hj; rw [Nat.testBit_mod_two_pow, decide_eq_true (show j < 64 by omega), Bool.true_and] at this; exact this
theorem LowB.lt {w r n : Nat} (h : LowB w r) (hw : w < 2 ^ n) : r < n := by
  rcases Nat.lt_or_ge r n with q | q
  · exact q
  · have := tb_off hw q; rw [h.1] at this; exact absurd this (by decide)
theorem and_all {w : Nat} (h : w < 2 ^ 64) : lN w &&& lN (2 ^ 64 - 2 ^ (0 % 64)) = lN w := by
  have := wb_and h (show 2 ^ 64 - 2 ^ (0 % 64) < 2 ^ 64 by decide)
  rw [this, show 2 ^ 64 - 2 ^ (0 % 64) = 2 ^ 64 - 1 by decide, Nat.and_two_pow_sub_one_eq_mod, Nat.mod_eq_of_lt h]
theorem btw_ok {i : Int32} {a b : Nat} (ha : a < 2 ^ 31) (hb : b < 2 ^ 31) : bI (lN a ≤ i.toInt64 ∧ i.toInt64 ≤ lN b) = bI (nI a ≤ i ∧ i ≤ nI b) := by
  apply bI_e
  rw [← nI_l ha, ← nI_l hb, fa_wide_le, fa_wide_le]
/-! a list cut, a list copied -/
def cutG (g : Nat → Option Nat) (n x : Nat) : Nat → Option Nat := fun j => if x ≤ j ∧ j < n then none else g j
theorem cutG_0 (g : Nat → Option Nat) (n : Nat) : cutG g n n = g := by
  funext j; unfold cutG; rw [if_neg (by omega)]
theorem cutG_lt {g : Nat → Option Nat} {n x j : Nat} (h : j < x) : cutG g n x j = g j := by
  unfold cutG; rw [if_neg (by omega)]
theorem cutG_s {g : Nat → Option Nat} {n x : Nat} (h : 1 ≤ x) (h2 : x ≤ n) : va_up (cutG g n x) (x - 1) none = cutG g n (x - 1) := by
  funext j
  unfold va_up cutG
  by_cases hj : j = x - 1
  · rw [if_pos hj, if_pos (by omega)]
  · rw [if_neg hj]
    by_cases q : x ≤ j ∧ j < n
    · rw [if_pos q, if_pos (by omega)]
    · rw [if_neg q, if_neg (by omega)]
theorem cutM {mc : Int32} {n x : Nat} (h : 1 ≤ x) (h2 : x ≤ n) : mc + nI (n - x) + nI 1 = mc + nI (n - (x - 1)) := by
  rw [Int32.add_assoc, nI_add]
  congr 2; omega
theorem cutM0 {mc : Int32} {n : Nat} : mc + nI (n - n) = mc := by
  rw [Nat.sub_self]; exact Int32.add_zero mc
def pfx (g : Nat → Option Nat) (x : Nat) : Nat → Option Nat := fun j => if j < x then g j else none
theorem pfx_up {g : Nat → Option Nat} {x y : Nat} (h : g x = some y) : va_up (pfx g x) x (some y) = pfx g (x + 1) := by
  funext j
  unfold va_up pfx
  by_cases hj : j = x
  · rw [if_pos hj, if_pos (by omega), hj, h]
  · rw [if_neg hj]
    by_cases q : j < x
    · rw [if_pos q, if_pos (by omega)]
    · rw [if_neg q, if_neg (by omega)]
theorem pfx_cpy {g : Nat → Option Nat} {x : Nat} : va_cpy (pfx g x) (fun _ => none) 0 0 x = pfx g x := by
  funext j
  unfold va_cpy pfx
  by_cases q : j < x
  · rw [if_pos (by omega), if_pos (by omega), if_pos q]; congr 1; omega
  · rw [if_neg (by omega), if_neg q]
theorem pfx_0 {g : Nat → Option Nat} : (fun _ => none) = pfx g 0 := by
  funext j; unfold pfx; rw [if_neg (by omega)]
def capF (x : Nat) : Nat := if x = 0 then 0 else if x ≤ 10 then 10 else if x ≤ 15 then 15 else if x ≤ 22 then 22 else if x ≤ 33 then 33 else if x ≤ 49 then 49 else if x ≤ 73 then 73 else 109
def cF (x : Nat) : Nat := if x = 0 then 0 else if x ≤ 10 then 1 else if x ≤ 15 then 2 else if x ≤ 22 then 3 else if x ≤ 33 then 4 else if x ≤ 49 then 5 else if x ≤ 73 then 6 else 7
def sF (x : Nat) : Nat := if x = 0 then 0 else if x ≤ 10 then 10 else if x ≤ 15 then 25 else if x ≤ 22 then 47 else if x ≤ 33 then 80 else if x ≤ 49 then 129 else if x ≤ 73 then 202 else 311
theorem cap_step : ∀ x, x < 100 → 1 ≤ x → ((x < capF x ∧ capF (x + 1) = capF x ∧ cF (x + 1) = cF x ∧ sF (x + 1) = sF x) ∨ (x = capF x ∧ capF (x + 1) = capG x ∧ cF (x + 1) = cF x + 1 ∧ sF (x + 1) = sF x + capG x)) := by decide +kernel
theorem cap_le : ∀ x, x ≤ 100 → x ≤ capF x ∧ capF x ≤ 109 ∧ cF x ≤ 7 ∧ sF x ≤ 311 := by decide +kernel
theorem NtG.pfx {D : va_G} {A : Nat → Prop} {g : Nat → Option Nat} {n x : Nat} {H : Heap} (h : NtG D A g n H) (hx : x ≤ n) : NtG D A (pfx g x) x H := by
  intro k hk
  obtain ⟨y, vs, h1, h2, h3⟩ := h k (by omega)
  exact ⟨y, vs, (if_pos hk).trans h1, h2, h3⟩
theorem low_pos {v r : Nat} (h0 : v.testBit 0 = false) (h : LowB v r) : 1 ≤ r := by
  rcases Nat.eq_zero_or_pos r with e | e
  · subst e; rw [h.1] at h0; exact absurd h0 (by decide)
  · exact e
/-! the notes of a store's log, told by the model's array -/
def nfF (f : Nat → Int32) (r j : Nat) : Int32 := if rcf f r 0 = 0 then rcf f r j else -1
def ntE (f : Nat → Int32) (r : Nat) : List Value := [.int (rcf f r 0), .int (rcf f r 1), .int (nfF f r 2), .int (nfF f r 3), .int (rcf f r 4)]
def NtF (D : va_G) (f : Nat → Int32) (g : Nat → Option Nat) (n : Nat) (H : Heap) : Prop := ∀ k, k < n → ∃ y : Nat, g k = some y ∧ va_at D vwCl (y, .inr (6, ntE f (k + 1))) H
theorem NtF.kept {D : va_G} {f : Nat → Int32} {g : Nat → Option Nat} {n : Nat} {H0 H : Heap} {locs : List Loc} (h : NtF D f g n H0) (hS : va_S (fun q => H0.size ≤ q) H0 H locs) : NtF D f g n H := by
  intro k hk
  obtain ⟨y, h1, h3⟩ := h k hk
  exact ⟨y, h1, h3.kept (hS.2.1 y h3.lt (Nat.not_le.2 h3.lt))⟩
theorem va_P1 {D : va_G} {x : Nat × va_E} {H : Heap} (h : va_at D vwCl x H) : va_P D vwCl [x] H := fun k q hk => by
  match k, hk with
  | 0, hk => cases hk; exact h
  | k + 1, hk => simp at hk
