/-! the copy's log; what would be -/
theorem zFz_app {D : va_G} {A : Nat → Prop} {a b : va_W} {H : Heap} (h : zFz D A a H) (h2 : zFz D A b H) : zFz D A (a ++ b) H := by
  refine ⟨h.1.app h2.1, fun k q hk => ?_⟩
  rcases List.mem_append.mp (List.mem_of_getElem? hk) with hm | hm
  · obtain ⟨i, hi⟩ := List.getElem?_of_mem hm
    exact h.2 i q hi
  · obtain ⟨i, hi⟩ := List.getElem?_of_mem hm
    exact h2.2 i q hi
theorem log_of {D : va_G} {dA : Nat → ClassId} {A A2 : Nat → Prop} {f : Nat → Int32} {a0 ae n xq : Nat} {g : Nat → Option Nat} {xe : va_E} {H : Heap} (hL : LogT dA a0 ae n g xq xe) (hX : va_at D vwCl (xq, xe) H) (hna : ¬ A xq) (hN : NtA D A2 f g n H) (hsub : ∀ q, A q → A2 q) (hn : n ≤ 100) : LogRA D dA A f ae n H := by
  rcases hL with ⟨h, -⟩ | ⟨rfl, cap, h1, h2, h3, rfl⟩
  · exact ⟨hn, Or.inl h⟩
  · exact ⟨hn, Or.inr ⟨cap, g, h1, h2, hna, hX, hN.narrow hsub⟩⟩
theorem rcN_tk {f : Nat → Int32} {b : Nat} (hb : b < 2) (x : Nat) : rcN (tickK f x) b = rcN f b := by
  show (tickK f x (12 + 3 * b + 0)).toNatClampNeg = _
  rw [tickK_s f x _ (by omega) (by omega) (by omega)]; rfl
theorem rN_tk (f : Nat → Int32) (x : Nat) : rN (tickK f x) = rN f := by
  show (tickK f x 0).toNatClampNeg = _
  rw [tickK_s f x 0 (by omega) (by omega) (by omega)]; rfl
theorem sbf2_tk {f : Nat → Int32} {b : Nat} (hb : b < 2) (x : Nat) : sbf (tickK f x) b 2 = sbf f b 2 := tickK_s f x _ (by omega) (by omega) (by omega)
theorem gapB_tk {f : Nat → Int32} {b w : Nat} (hb : b < 2) (h : gapB f b w) (x : Nat) : gapB (tickK f x) b w := by
  refine ⟨h.1, fun r h1 h2 => ?_⟩
  have e : tickK f x (17 + 100 * b + r) = f (17 + 100 * b + r) := tickK_s f x _ (by omega) (by omega) (by omega)
  show _ ↔ tickK f x (17 + 100 * b + r) = nI 1
  rw [e]; exact h.2 r h1 h2
theorem rcf_tk (f : Nat → Int32) (x : Nat) {r : Nat} (hr : 1 ≤ r) (w : Nat) : rcf (tickK f x) r w = rcf f r w := tickK_s f x _ (by omega) (by omega) (by omega)
def axK (f : Nat → Int32) (ax : Int32) : Nat → Int32
  | 0 => ax
  | x + 1 => axK f ax x + nI (tickS (tickK f x) 1)
theorem oNF_tk {f : Nat → Int32} {b pos rt most : Nat} (h : most + 1 < 2 ^ 30) : oNF (tkC f b pos rt most) = untilN f b pos rt (most + 1) (apN f b) 0 := by
  unfold tkC
  rcases untilN_pos f b pos rt (most + 1) (apN f b) 0 (by omega) with e | ⟨x, hx, e⟩
  · rw [if_pos e, e]; rfl
  · rw [e, if_neg (nI_nNF (by omega))]; exact oNF_p rfl (by omega)
theorem tkC_n {f : Nat → Int32} {b pos rt most : Nat} (h : most + 1 < 2 ^ 30) : (¬ tkC f b pos rt most = -1) ↔ 0 ≤ untilN f b pos rt (most + 1) (apN f b) 0 := by
  unfold tkC
  rcases untilN_pos f b pos rt (most + 1) (apN f b) 0 (by omega) with e | ⟨x, hx, e⟩
  · rw [if_pos e, e]; exact ⟨fun q => absurd rfl q, fun q => absurd q (by decide)⟩
  · rw [e, if_neg (nI_nNF (by omega))]; exact ⟨fun _ => nI_pos' (by omega), fun _ => nI_ne1 (by omega)⟩
/-- a store with another rate -/
def rtF (f : Nat → Int32) (k : Nat) : Nat → Int32 := upd f 7 (nI k)
theorem rtF_n {f : Nat → Int32} {k j : Nat} (h : j ≠ 7) : rtF f k j = f j := upd_n h
theorem InvA_rtF {f : Nat → Int32} {k : Nat} (h : InvA f) (hk : k ≤ 20) : InvA (rtF f k) := by
  obtain ⟨h1, h2, h3, h4, h5⟩ := h
  refine InvA_mk (rN f) k (rcN f) (apN f) (by rw [rtF_n (by omega)]; exact h1) h2 (fun c hc => ?_) upd_s hk
  have q0 : sbf (rtF f k) c 0 = sbf f c 0 := rtF_n (by omega)
  have q1 : sbf (rtF f k) c 1 = sbf f c 1 := rtF_n (by omega)
  rw [q0, q1]; exact h3 c hc
theorem rtN_rtF {f : Nat → Int32} {k : Nat} (hk : k ≤ 20) : rtN (rtF f k) = k := by
  show (rtF f k 7).toNatClampNeg = _
  rw [show rtF f k 7 = nI k from upd_s, nI_clamp (by omega)]
theorem gapB_rtF {f : Nat → Int32} {b w k : Nat} (h : gapB f b w) : gapB (rtF f k) b w := by
  refine ⟨h.1, fun r h1 h2 => ?_⟩
  show _ ↔ rtF f k (17 + 100 * b + r) = nI 1
  rw [rtF_n (by omega)]; exact h.2 r h1 h2
theorem rcf_rtF {f : Nat → Int32} {k r : Nat} (hr : 1 ≤ r) (w : Nat) : rcf (rtF f k) r w = rcf f r w := rtF_n (by omega)
theorem seF_rtF {f : Nat → Int32} {k : Nat} : upd (seF f) 0 (nI k) 0 = rtF f k 7 ∧ upd (seF f) 0 (nI k) 1 = rtF f k 8 := ⟨rfl, rfl⟩
theorem until_rtF {f : Nat → Int32} {b pos k m now n : Nat} (hb : b < 2) : untilN (rtF f k) b pos k m now n = untilN f b pos k m now n := untilN_congr (fun j h6 h7 => rtF_n h7) hb pos k m now n
theorem goal_0 {f : Nat → Int32} {b W : Nat} (h : gapB f b W) (hW : W = 0) : rcN f b = goalN f b := by
  unfold goalN; rw [if_pos (lowGap_0 h hW)]
theorem goal_b {f : Nat → Int32} {b W r : Nat} (h : gapB f b W) (h1 : 1 ≤ r) (h2 : r ≤ 100) (hl : LowB W r) : r - 1 = goalN f b := by
  unfold goalN; rw [lowGap_b h h1 h2 hl, if_neg (by omega)]
theorem goal_le {f : Nat → Int32} {b : Nat} (h : InvA f) (hb : b < 2) : goalN f b ≤ 100 := by
  obtain ⟨-, -, h1, h2⟩ := InvA_ap h hb
  have := h.2.1
  have := lowGap_le f b 100 0
  unfold goalN; split <;> omega
theorem rateN_t {f : Nat → Int32} {b goal most m r : Nat} (h : 0 ≤ untilN f b goal r (most + 1) (apN f b) 0) : rateN f b goal most (m + 1) r = nI r := if_pos h
theorem rateN_f {f : Nat → Int32} {b goal most m r : Nat} (h : ¬ 0 ≤ untilN f b goal r (most + 1) (apN f b) 0) : rateN f b goal most (m + 1) r = rateN f b goal most m (r + 1) := if_neg h
theorem wd_iff {f : Nat → Int32} {b pos k t : Nat} (hb : b < 2) (hk : k ≤ 20) (ht : t ≤ 200) : (¬ tkC (rtF f k) b pos (rtN (rtF f k)) t = -1) ↔ 0 ≤ untilN f b pos k (t + 1) (apN f b) 0 := by
  rw [tkC_n (by omega), rtN_rtF hk, until_rtF hb]
  have e : apN (rtF f k) b = apN f b := by
    show (rtF f k (12 + 3 * b + 1)).toNatClampNeg = _
    rw [rtF_n (by omega)]; rfl
  rw [e]
