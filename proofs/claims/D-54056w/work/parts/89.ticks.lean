set_option maxHeartbeats 4000000 in
set_option maxRecDepth 100000 in
theorem mX0_ticksTo0 (l : Launch) (D : va_G) (dA : Nat → ClassId) (ad : Nat → Nat) (A : Nat → Prop) (sz : Nat) (st : Nat) (jn : Nat) (sl : Nat) (sa : Nat) (se : Nat) (tk : Int32) (tl : Int32) (tr : Int32) (lc : Int32) (lr : Int32) (ax : Int32) (al : Nat) (mc : Int32) (ae : Nat) (n : Nat) (f : Nat → Int32) (h : Nat → Option Nat) (seg : Nat → Int32) (s0 : Nat) (ac0 : Nat) (b0 : Nat) (w0 : Nat) (sk0 : Int32) (W0 : Nat) (s1 : Nat) (ac1 : Nat) (b1 : Nat) (w1 : Nat) (sk1 : Int32) (W1 : Nat) (rc0 : Nat) (ap0 : Nat) (rc1 : Nat) (ap1 : Nat) (pos : Nat) (most : Nat) (hA : ∀ q, sz ≤ q → A q) (hI : InvA f) (hn : n = rN f) (hpo : pos ≤ 100) (hmo : most ≤ 200) (htk : tk = f 1) (hs0 : seg 0 = f 7) (hs1 : seg 1 = f 8) (hg0 : h 0 = some s0) (hg1 : h 1 = some s1) (hW0 : W0 < 2 ^ 101) (ha0 : ac0 ≤ 1) (hac0 : sbf f 0 2 = nI (ac0)) (hgp0 : gapB f 0 W0) (hW1 : W1 < 2 ^ 101) (ha1 : ac1 ≤ 1) (hac1 : sbf f 1 2 = nI (ac1)) (hgp1 : gapB f 1 W1) (hrc0 : rc0 = rcN f 0) (hap0 : ap0 = apN f 0) (hrc1 : rc1 = rcN f 1) (hap1 : ap1 = apN f 1) (hD : va_D A [(st, .inr (1, [.ref jn, .ref sl, .ref sa, .ref se, .int tk, .int tl, .int tr, .int lc, .int lr, .int ax])), (s0, .inr (3, [.int (nI (rc0)), .int (nI (ap0)), .ref b0, .int (nI (ac0))])), (s1, .inr (3, [.int (nI (rc1)), .int (nI (ap1)), .ref b1, .int (nI (ac1))]))]) : Met l yX0_ticksTo (ws_ yX0_ticksTo cX0_ticksTo 6 (some .int)) ({ frames := 7, cells := 0, slots := 0, locals := 240 }) (va_Pc [.ref st, .int (nI (0)), .int (nI (pos)), .int (nI (most))] (zP D dA ad A sz (fun H => va_P D vwCl [(st, .inr (1, [.ref jn, .ref sl, .ref sa, .ref se, .int tk, .int tl, .int tr, .int lc, .int lr, .int ax])), (s0, .inr (3, [.int (nI (rc0)), .int (nI (ap0)), .ref b0, .int (nI (ac0))])), (s1, .inr (3, [.int (nI (rc1)), .int (nI (ap1)), .ref b1, .int (nI (ac1))]))] H ∧ zFz D A [(jn, .inr (2, [.ref al])), (al, .inr (9, [.int mc, .ref ae, .int (nI (n))])), (se, .inl (dA 0, 2, .inl seg)), (sa, .inl (dA 4, 2, .inr (.inr (.inr (.inr h))))), (b0, .inr (10, [.ref w0, .int (nI (uOf W0)), .int sk0])), (w0, .inl (dA 1, 2, .inr (.inl (lwd W0)))), (b1, .inr (10, [.ref w1, .int (nI (uOf W1)), .int sk1])), (w1, .inl (dA 1, 2, .inr (.inl (lwd W1))))] H ∧ LogRA D dA A f ae n H))) (zQi (fun rz H => ∃ y1 : Int32, ∃ y2 : Int32, ∃ p0 : Nat, ∃ p1 : Nat, rz = tkC f 0 pos (rtN f) most ∧ va_P D vwCl [(st, .inr (1, [.ref jn, .ref sl, .ref sa, .ref se, .int y1, .int tl, .int tr, .int lc, .int lr, .int y2])), (s0, .inr (3, [.int (nI (rc0)), .int (nI (p0)), .ref b0, .int (nI (ac0))])), (s1, .inr (3, [.int (nI (rc1)), .int (nI (p1)), .ref b1, .int (nI (ac1))]))] H ∧ va_D A [(st, .inr (1, [.ref jn, .ref sl, .ref sa, .ref se, .int y1, .int tl, .int tr, .int lc, .int lr, .int y2])), (s0, .inr (3, [.int (nI (rc0)), .int (nI (p0)), .ref b0, .int (nI (ac0))])), (s1, .inr (3, [.int (nI (rc1)), .int (nI (p1)), .ref b1, .int (nI (ac1))]))]) A) (0) (0) A := by
  refine Met.ofW (cc := cX0_ticksTo) (maxL := 6) (ret := (some .int)) (by decide) rfl ?_
  intro p e s m args below meth c s₁ B hml hv
  obtain ⟨rfl, hsz, hC, hP⟩ := hv
  have hx := B.exec
  have hb := B.bytes
  have hr := B.returns
  have hts := atoms_spec (ws := ws_ yX0_ticksTo cX0_ticksTo 6 (some .int)) B.pre
  have hts : ∀ w ∈ lw_all, w.before _ s = true := fun w h => hts w (List.mem_cons_of_mem _ h)
  have hown : s.vm.findClass RX0 = some m.cls := findClass_of_methodNamed B.named
  have hlocks := B.notSynchronized
  subst hsz
  have hK := hC.K
  have hS : va_S A s.heap s.heap [] := va_S.rf
  obtain ⟨hP, hZ, hP2⟩ := hP
  have hP : va_P D vwCl [(st, .inr (1, [.ref jn, .ref sl, .ref sa, .ref se, .int tk, .int tl, .int tr, .int lc, .int lr, .int ax])), (s0, .inr (3, [.int (nI (rc0)), .int (nI (ap0)), .ref b0, .int (nI (ac0))])), (s1, .inr (3, [.int (nI (rc1)), .int (nI (ap1)), .ref b1, .int (nI (ac1))]))] s.heap := hP
  have hn9 := hP2.1
  have hl := lv_entry ([.ref st, .int (nI (0)), .int (nI (pos)), .int (nI (most))]) (n := 6) (Nat.le_of_ble_eq_true rfl)
  rw [lg_entry_eq]
  generalize (lg_sl ([.ref st, .int (nI (0)), .int (nI (pos)), .int (nI (most))]) ++ List.replicate (6 - (lg_sl ([.ref st, .int (nI (0)), .int (nI (pos)), .int (nI (most))])).length) Slot.unset).toArray = ls at hl ⊢
  have hl : lv_has ls 6 [(0, .ref st), (1, .int (nI (0))), (2, .int (nI (pos))), (3, .int (nI (most)))] := hl
  subst hrc0 hap0 hrc1 hap1
  refine lv_iconst (v := nI (0)) hx hb dX0_ticksTo_0 (by decide) ?_
  refine lv_istore (lv' := [(4, .int (nI (0))), (0, .ref st), (1, .int (nI (0))), (2, .int (nI (pos))), (3, .int (nI (most)))]) hx hb dX0_ticksTo_1 hl (by decide) rfl (fun ls hl => ?_)
  refine z_loop (σ := Nat) (fun x => most + 1 - x) (fun x H locs ls => va_P D vwCl [(st, .inr (1, [.ref jn, .ref sl, .ref sa, .ref se, .int (tickK f x 1), .int tl, .int tr, .int lc, .int lr, .int (axK f ax x)])), (s0, .inr (3, [.int (nI (rcN f 0)), .int (nI (apN (tickK f x) 0)), .ref b0, .int (nI (ac0))])), (s1, .inr (3, [.int (nI (rcN f 1)), .int (nI (apN (tickK f x) 1)), .ref b1, .int (nI (ac1))]))] H ∧ va_D A [(st, .inr (1, [.ref jn, .ref sl, .ref sa, .ref se, .int (tickK f x 1), .int tl, .int tr, .int lc, .int lr, .int (axK f ax x)])), (s0, .inr (3, [.int (nI (rcN f 0)), .int (nI (apN (tickK f x) 0)), .ref b0, .int (nI (ac0))])), (s1, .inr (3, [.int (nI (rcN f 1)), .int (nI (apN (tickK f x) 1)), .ref b1, .int (nI (ac1))]))] ∧ va_S A s.heap H locs ∧ lv_has ls 6 [(0, .ref st), (1, .int (nI (0))), (2, .int (nI (pos))), (3, .int (nI (most))), (4, .int (nI (x)))] ∧ x ≤ most + 1 ∧ untilN f 0 pos (rtN f) (most + 1) (apN f 0) 0 = untilN f 0 pos (rtN f) (most + 1 - x) (apN (tickK f x) 0) x) (0) ⟨(by rw [show tickK f 0 = f from rfl, show axK f ax 0 = ax from rfl, ← htk]; exact hP), hD.same rfl, hS, (lv_sub (l' := [(0, .ref st), (1, .int (nI (0))), (2, .int (nI (pos))), (3, .int (nI (most))), (4, .int (nI (0)))]) hl [1, 2, 3, 4, 0] rfl), by omega, rfl⟩ ?_
  intro x H locs ls ⟨hP, hD, hS, hl, hx1, hx2⟩ ih_3
  refine lv_iload hx hb dX0_ticksTo_3 (lv_at hl 4 rfl) ?_
  refine lv_iload_n hx hb dX0_ticksTo_5 rfl (lv_at hl 3 rfl) ?_
  refine lv_icmp_gt (tgt := 35) hx hb dX0_ticksTo_6 (by decide) (fun c_1 => ?_) (fun c_1 => ?_)
  · have c_1 := (nI_ltI (by omega) (by omega)).1 c_1
    refine lv_iload hx hb dX0_ticksTo_35 (lv_at hl 4 rfl) ?_
    refine lv_iload_n hx hb dX0_ticksTo_37 rfl (lv_at hl 3 rfl) ?_
    refine lv_icmp_gt (tgt := 46) hx hb dX0_ticksTo_38 (by decide) (fun c_2 => ?_) (fun c_2 => ?_)
    · have c_2 := (nI_ltI (by omega) (by omega)).1 c_2
      refine lv_iconst (v := (-1)) hx hb dX0_ticksTo_46 (by decide) ?_
      exact z_iret (v := (-1)) hx hb hr hS (⟨_, _, _, _, (by unfold tkC; rw [hx2, show most + 1 - x = 0 by omega]; exact (if_pos rfl).symm), hP, hD⟩) (by omega) (by omega) dX0_ticksTo_47
    · have c_2 := mt (nI_ltI (by omega) (by omega)).2 c_2
      omega
  · have c_1 := mt (nI_ltI (by omega) (by omega)).2 c_1
    have hb0 := tk_ap hI (b := 0) (by omega) x
    have hb1 := tk_ap hI (b := 1) (by omega) x
    have hc0 := (InvA_ap hI (b := 0) (by omega)).2.2.2
    have hc1 := (InvA_ap hI (b := 1) (by omega)).2.2.2
    refine lv_aload_n hx hb dX0_ticksTo_9 rfl (lv_at hl 0 rfl) ?_
    refine va_getN (D := D) (ci := 1) (v := .ref sa) (C := RX1) (T := TX1) (N := 10) hx hb hts in_X1 hown hK hP 0 rfl rfl 2 (by decide) (Cx.nF hC (List.mem_of_getElem? (i := 7) rfl)) (fun _ h9 => h9) rfl dX0_ticksTo_10 ?_
    refine lv_iload_n hx hb dX0_ticksTo_13 rfl (lv_at hl 1 rfl) ?_
    refine va_aldq hx hb hK (hZ.at hS) 3 4 rfl rfl (vp_in_nI (by omega) (by omega)) dX0_ticksTo_14 ?_
    refine lv_topv (y := .ref s0) (by rw [nI_clamp (by omega)]; rw [hg0]; rfl) ?_
    refine va_getN (D := D) (ci := 3) (v := .int (nI (apN (tickK f x) 0))) (C := RX3) (T := TX3) (N := 4) hx hb hts in_X3 hown hK hP 1 rfl rfl 1 (by decide) (Cx.nF hC (List.mem_of_getElem? (i := 2) rfl)) (fun _ h9 => h9) rfl dX0_ticksTo_15 ?_
    refine lv_iload_n hx hb dX0_ticksTo_18 rfl (lv_at hl 2 rfl) ?_
    refine lv_icmp_ge (tgt := 35) hx hb dX0_ticksTo_19 (by decide) (fun c_3 => ?_) (fun c_3 => ?_)
    · have c_3 := (nI_leI (by omega) (by omega)).1 c_3
      refine lv_iload hx hb dX0_ticksTo_35 (lv_at hl 4 rfl) ?_
      refine lv_iload_n hx hb dX0_ticksTo_37 rfl (lv_at hl 3 rfl) ?_
      refine lv_icmp_gt (tgt := 46) hx hb dX0_ticksTo_38 (by decide) (fun c_4 => ?_) (fun c_4 => ?_)
      · have c_4 := (nI_ltI (by omega) (by omega)).1 c_4
        omega
      · have c_4 := mt (nI_ltI (by omega) (by omega)).2 c_4
        refine lv_iload hx hb dX0_ticksTo_41 (lv_at hl 4 rfl) ?_
        refine lv_goto (tgt := 47) hx hb dX0_ticksTo_43 (by decide) ?_
        exact z_iret (v := nI (x)) hx hb hr hS (⟨_, _, _, _, (by unfold tkC; rw [hx2, show most + 1 - x = (most - x) + 1 by omega, untilN_end c_3, if_neg (nI_nNF (by omega))]), hP, hD⟩) (by omega) (by omega) dX0_ticksTo_47
    · have c_3 := mt (nI_leI (by omega) (by omega)).2 c_3
      refine lv_aload_n hx hb dX0_ticksTo_22 rfl (lv_at hl 0 rfl) ?_
      refine lv_iconst (v := nI (1)) hx hb dX0_ticksTo_23 (by decide) ?_
      refine z_cVi (As := [.int (nI (1))]) (rest := []) ⟨hx, hb, hml, hown, hts⟩ (mX1_passes l D dA ad A H.size st jn sl sa se (tickK f x 1) tl tr lc lr (axK f ax x) al mc ae n (tickK f x) h seg s0 ac0 b0 w0 sk0 W0 s1 ac1 b1 w1 sk1 W1 (rcN f 0) (apN (tickK f x) 0) (rcN f 1) (apN (tickK f x) 1) 1 (hA_up hA hS) (InvA_tickK hI x) (hn.trans (rN_tk f x).symm) (by omega) (rfl) (hs0.trans (tickK_s f x 7 (by omega) (by omega) (by omega)).symm) (hs1.trans (tickK_s f x 8 (by omega) (by omega) (by omega)).symm) (hg0) (hg1) (hW0) (ha0) ((sbf2_tk (by omega) x).trans hac0) (gapB_tk (by omega) hgp0 x) (hW1) (ha1) ((sbf2_tk (by omega) x).trans hac1) (gapB_tk (by omega) hgp1 x) ((rcN_tk (by omega) x).symm) (rfl) ((rcN_tk (by omega) x).symm) (rfl) (hD.sub [0, 1, 2] (by decide) rfl)) (cwV 1 hts (lw_V q794 q795 q796 q55 q797) rfl rfl rfl (by decide +kernel) ⟨Nat.le_of_ble_eq_true rfl, Nat.le_of_ble_eq_true rfl⟩) hC hS (fun _ h => h) ⟨(hP.sub (ws' := [(st, .inr (1, [.ref jn, .ref sl, .ref sa, .ref se, .int (tickK f x 1), .int tl, .int tr, .int lc, .int lr, .int (axK f ax x)])), (s0, .inr (3, [.int (nI (rcN f 0)), .int (nI (apN (tickK f x) 0)), .ref b0, .int (nI (ac0))])), (s1, .inr (3, [.int (nI (rcN f 1)), .int (nI (apN (tickK f x) 1)), .ref b1, .int (nI (ac1))]))]) [0, 1, 2] rfl), (zFz_mk ((hZ.at hS).sub (ws' := [(jn, .inr (2, [.ref al])), (al, .inr (9, [.int mc, .ref ae, .int (nI (n))])), (se, .inl (dA 0, 2, .inl seg)), (sa, .inl (dA 4, 2, .inr (.inr (.inr (.inr h))))), (b0, .inr (10, [.ref w0, .int (nI (uOf W0)), .int sk0])), (w0, .inl (dA 1, 2, .inr (.inl (lwd W0)))), (b1, .inr (10, [.ref w1, .int (nI (uOf W1)), .int sk1])), (w1, .inl (dA 1, 2, .inr (.inl (lwd W1))))]) [0, 1, 2, 3, 4, 5, 6, 7] rfl) (fun k q hk => by match k, hk with | 0, hk => cases hk; exact (hZ.out (q0 := 0) rfl) | 1, hk => cases hk; exact (hZ.out (q0 := 1) rfl) | 2, hk => cases hk; exact (hZ.out (q0 := 2) rfl) | 3, hk => cases hk; exact (hZ.out (q0 := 3) rfl) | 4, hk => cases hk; exact (hZ.out (q0 := 4) rfl) | 5, hk => cases hk; exact (hZ.out (q0 := 5) rfl) | 6, hk => cases hk; exact (hZ.out (q0 := 6) rfl) | 7, hk => cases hk; exact (hZ.out (q0 := 7) rfl) | k + 8, hk => simp at hk)), (hP2.kept hS).congr (fun r h1 _ w _ => rcf_tk f x h1 w)⟩ (va_recv hK hP (ci := 1) (q0 := 0) rfl rfl) rfl rfl hl.1 (Nat.le_of_ble_eq_true rfl) dX0_ticksTo_24 ⟨Nat.le_of_ble_eq_true rfl, Nat.le_of_ble_eq_true rfl⟩ (fun r_5 H locs hQ hF hS => ?_)
      obtain ⟨hQ, hP⟩ := hQ
      have hD := va_D.same (ws' := [(st, .inr (1, [.ref jn, .ref sl, .ref sa, .ref se, .int (tickK (tickK f x) 1 1), .int tl, .int tr, .int lc, .int lr, .int ((axK f ax x) + nI (tickS (tickK f x) 1))])), (s0, .inr (3, [.int (nI ((rcN f 0))), .int (nI (apN (tickK (tickK f x) 1) 0)), .ref b0, .int (nI (ac0))])), (s1, .inr (3, [.int (nI ((rcN f 1))), .int (nI (apN (tickK (tickK f x) 1) 1)), .ref b1, .int (nI (ac1))]))]) (hD.sub (ws' := [(st, .inr (1, [.ref jn, .ref sl, .ref sa, .ref se, .int (tickK f x 1), .int tl, .int tr, .int lc, .int lr, .int (axK f ax x)])), (s0, .inr (3, [.int (nI (rcN f 0)), .int (nI (apN (tickK f x) 0)), .ref b0, .int (nI (ac0))])), (s1, .inr (3, [.int (nI (rcN f 1)), .int (nI (apN (tickK f x) 1)), .ref b1, .int (nI (ac1))]))]) [0, 1, 2] (by decide) rfl) rfl
      have hP : va_P D vwCl [(st, .inr (1, [.ref jn, .ref sl, .ref sa, .ref se, .int (tickK (tickK f x) 1 1), .int tl, .int tr, .int lc, .int lr, .int ((axK f ax x) + nI (tickS (tickK f x) 1))])), (s0, .inr (3, [.int (nI ((rcN f 0))), .int (nI (apN (tickK (tickK f x) 1) 0)), .ref b0, .int (nI (ac0))])), (s1, .inr (3, [.int (nI ((rcN f 1))), .int (nI (apN (tickK (tickK f x) 1) 1)), .ref b1, .int (nI (ac1))]))] H := hP
      have hD : va_D A [(st, .inr (1, [.ref jn, .ref sl, .ref sa, .ref se, .int (tickK (tickK f x) 1 1), .int tl, .int tr, .int lc, .int lr, .int ((axK f ax x) + nI (tickS (tickK f x) 1))])), (s0, .inr (3, [.int (nI ((rcN f 0))), .int (nI (apN (tickK (tickK f x) 1) 0)), .ref b0, .int (nI (ac0))])), (s1, .inr (3, [.int (nI ((rcN f 1))), .int (nI (apN (tickK (tickK f x) 1) 1)), .ref b1, .int (nI (ac1))]))] := hD
      obtain rfl : nI (tickS (tickK f x) 1) = r_5 := hQ.symm
      refine lv_istore (lv' := [(5, .int (nI (tickS (tickK f x) 1))), (0, .ref st), (1, .int (nI (0))), (2, .int (nI (pos))), (3, .int (nI (most))), (4, .int (nI (x)))]) hx hb dX0_ticksTo_27 hl (by decide) rfl (fun ls hl => ?_)
      refine lv_iinc (v := nI (x + 1)) (lv' := [(4, .int (nI (x + 1))), (5, .int (nI (tickS (tickK f x) 1))), (0, .ref st), (1, .int (nI (0))), (2, .int (nI (pos))), (3, .int (nI (most)))]) hx hb dX0_ticksTo_29 hl (k := 5) rfl (nI_add _ _) (by decide) rfl (fun ls hl => ?_)
      refine lv_goto (tgt := 3) hx hb dX0_ticksTo_32 (by decide) ?_
      exact ih_3 (x + 1) H locs ls ⟨(by rw [show tickK f (x + 1) = tickK (tickK f x) 1 from rfl, show axK f ax (x + 1) = axK f ax x + nI (tickS (tickK f x) 1) from rfl]; exact hP.sub [0, 1, 2] rfl), (by rw [show tickK f (x + 1) = tickK (tickK f x) 1 from rfl, show axK f ax (x + 1) = axK f ax x + nI (tickS (tickK f x) 1) from rfl]; exact hD.sub [0, 1, 2] (by decide) rfl), hS, (lv_sub (l' := [(0, .ref st), (1, .int (nI (0))), (2, .int (nI (pos))), (3, .int (nI (most))), (4, .int (nI ((x + 1))))]) hl [2, 3, 4, 5, 0] rfl), by omega, by rw [hx2, show most + 1 - x = (most - x) + 1 by omega, untilN_step hI (by omega) (by omega), show most + 1 - (x + 1) = most - x by omega]⟩ (by omega)

set_option maxHeartbeats 4000000 in
set_option maxRecDepth 100000 in
theorem mX0_ticksTo1 (l : Launch) (D : va_G) (dA : Nat → ClassId) (ad : Nat → Nat) (A : Nat → Prop) (sz : Nat) (st : Nat) (jn : Nat) (sl : Nat) (sa : Nat) (se : Nat) (tk : Int32) (tl : Int32) (tr : Int32) (lc : Int32) (lr : Int32) (ax : Int32) (al : Nat) (mc : Int32) (ae : Nat) (n : Nat) (f : Nat → Int32) (h : Nat → Option Nat) (seg : Nat → Int32) (s0 : Nat) (ac0 : Nat) (b0 : Nat) (w0 : Nat) (sk0 : Int32) (W0 : Nat) (s1 : Nat) (ac1 : Nat) (b1 : Nat) (w1 : Nat) (sk1 : Int32) (W1 : Nat) (rc0 : Nat) (ap0 : Nat) (rc1 : Nat) (ap1 : Nat) (pos : Nat) (most : Nat) (hA : ∀ q, sz ≤ q → A q) (hI : InvA f) (hn : n = rN f) (hpo : pos ≤ 100) (hmo : most ≤ 200) (htk : tk = f 1) (hs0 : seg 0 = f 7) (hs1 : seg 1 = f 8) (hg0 : h 0 = some s0) (hg1 : h 1 = some s1) (hW0 : W0 < 2 ^ 101) (ha0 : ac0 ≤ 1) (hac0 : sbf f 0 2 = nI (ac0)) (hgp0 : gapB f 0 W0) (hW1 : W1 < 2 ^ 101) (ha1 : ac1 ≤ 1) (hac1 : sbf f 1 2 = nI (ac1)) (hgp1 : gapB f 1 W1) (hrc0 : rc0 = rcN f 0) (hap0 : ap0 = apN f 0) (hrc1 : rc1 = rcN f 1) (hap1 : ap1 = apN f 1) (hD : va_D A [(st, .inr (1, [.ref jn, .ref sl, .ref sa, .ref se, .int tk, .int tl, .int tr, .int lc, .int lr, .int ax])), (s0, .inr (3, [.int (nI (rc0)), .int (nI (ap0)), .ref b0, .int (nI (ac0))])), (s1, .inr (3, [.int (nI (rc1)), .int (nI (ap1)), .ref b1, .int (nI (ac1))]))]) : Met l yX0_ticksTo (ws_ yX0_ticksTo cX0_ticksTo 6 (some .int)) ({ frames := 7, cells := 0, slots := 0, locals := 240 }) (va_Pc [.ref st, .int (nI (1)), .int (nI (pos)), .int (nI (most))] (zP D dA ad A sz (fun H => va_P D vwCl [(st, .inr (1, [.ref jn, .ref sl, .ref sa, .ref se, .int tk, .int tl, .int tr, .int lc, .int lr, .int ax])), (s0, .inr (3, [.int (nI (rc0)), .int (nI (ap0)), .ref b0, .int (nI (ac0))])), (s1, .inr (3, [.int (nI (rc1)), .int (nI (ap1)), .ref b1, .int (nI (ac1))]))] H ∧ zFz D A [(jn, .inr (2, [.ref al])), (al, .inr (9, [.int mc, .ref ae, .int (nI (n))])), (se, .inl (dA 0, 2, .inl seg)), (sa, .inl (dA 4, 2, .inr (.inr (.inr (.inr h))))), (b0, .inr (10, [.ref w0, .int (nI (uOf W0)), .int sk0])), (w0, .inl (dA 1, 2, .inr (.inl (lwd W0)))), (b1, .inr (10, [.ref w1, .int (nI (uOf W1)), .int sk1])), (w1, .inl (dA 1, 2, .inr (.inl (lwd W1))))] H ∧ LogRA D dA A f ae n H))) (zQi (fun rz H => ∃ y1 : Int32, ∃ y2 : Int32, ∃ p0 : Nat, ∃ p1 : Nat, rz = tkC f 1 pos (rtN f) most ∧ va_P D vwCl [(st, .inr (1, [.ref jn, .ref sl, .ref sa, .ref se, .int y1, .int tl, .int tr, .int lc, .int lr, .int y2])), (s0, .inr (3, [.int (nI (rc0)), .int (nI (p0)), .ref b0, .int (nI (ac0))])), (s1, .inr (3, [.int (nI (rc1)), .int (nI (p1)), .ref b1, .int (nI (ac1))]))] H ∧ va_D A [(st, .inr (1, [.ref jn, .ref sl, .ref sa, .ref se, .int y1, .int tl, .int tr, .int lc, .int lr, .int y2])), (s0, .inr (3, [.int (nI (rc0)), .int (nI (p0)), .ref b0, .int (nI (ac0))])), (s1, .inr (3, [.int (nI (rc1)), .int (nI (p1)), .ref b1, .int (nI (ac1))]))]) A) (0) (0) A := by
  refine Met.ofW (cc := cX0_ticksTo) (maxL := 6) (ret := (some .int)) (by decide) rfl ?_
  intro p e s m args below meth c s₁ B hml hv
  obtain ⟨rfl, hsz, hC, hP⟩ := hv
  have hx := B.exec
  have hb := B.bytes
  have hr := B.returns
  have hts := atoms_spec (ws := ws_ yX0_ticksTo cX0_ticksTo 6 (some .int)) B.pre
  have hts : ∀ w ∈ lw_all, w.before _ s = true := fun w h => hts w (List.mem_cons_of_mem _ h)
  have hown : s.vm.findClass RX0 = some m.cls := findClass_of_methodNamed B.named
  have hlocks := B.notSynchronized
  subst hsz
  have hK := hC.K
  have hS : va_S A s.heap s.heap [] := va_S.rf
  obtain ⟨hP, hZ, hP2⟩ := hP
  have hP : va_P D vwCl [(st, .inr (1, [.ref jn, .ref sl, .ref sa, .ref se, .int tk, .int tl, .int tr, .int lc, .int lr, .int ax])), (s0, .inr (3, [.int (nI (rc0)), .int (nI (ap0)), .ref b0, .int (nI (ac0))])), (s1, .inr (3, [.int (nI (rc1)), .int (nI (ap1)), .ref b1, .int (nI (ac1))]))] s.heap := hP
  have hn9 := hP2.1
  have hl := lv_entry ([.ref st, .int (nI (1)), .int (nI (pos)), .int (nI (most))]) (n := 6) (Nat.le_of_ble_eq_true rfl)
  rw [lg_entry_eq]
  generalize (lg_sl ([.ref st, .int (nI (1)), .int (nI (pos)), .int (nI (most))]) ++ List.replicate (6 - (lg_sl ([.ref st, .int (nI (1)), .int (nI (pos)), .int (nI (most))])).length) Slot.unset).toArray = ls at hl ⊢
  have hl : lv_has ls 6 [(0, .ref st), (1, .int (nI (1))), (2, .int (nI (pos))), (3, .int (nI (most)))] := hl
  subst hrc0 hap0 hrc1 hap1
  refine lv_iconst (v := nI (0)) hx hb dX0_ticksTo_0 (by decide) ?_
  refine lv_istore (lv' := [(4, .int (nI (0))), (0, .ref st), (1, .int (nI (1))), (2, .int (nI (pos))), (3, .int (nI (most)))]) hx hb dX0_ticksTo_1 hl (by decide) rfl (fun ls hl => ?_)
  refine z_loop (σ := Nat) (fun x => most + 1 - x) (fun x H locs ls => va_P D vwCl [(st, .inr (1, [.ref jn, .ref sl, .ref sa, .ref se, .int (tickK f x 1), .int tl, .int tr, .int lc, .int lr, .int (axK f ax x)])), (s0, .inr (3, [.int (nI (rcN f 0)), .int (nI (apN (tickK f x) 0)), .ref b0, .int (nI (ac0))])), (s1, .inr (3, [.int (nI (rcN f 1)), .int (nI (apN (tickK f x) 1)), .ref b1, .int (nI (ac1))]))] H ∧ va_D A [(st, .inr (1, [.ref jn, .ref sl, .ref sa, .ref se, .int (tickK f x 1), .int tl, .int tr, .int lc, .int lr, .int (axK f ax x)])), (s0, .inr (3, [.int (nI (rcN f 0)), .int (nI (apN (tickK f x) 0)), .ref b0, .int (nI (ac0))])), (s1, .inr (3, [.int (nI (rcN f 1)), .int (nI (apN (tickK f x) 1)), .ref b1, .int (nI (ac1))]))] ∧ va_S A s.heap H locs ∧ lv_has ls 6 [(0, .ref st), (1, .int (nI (1))), (2, .int (nI (pos))), (3, .int (nI (most))), (4, .int (nI (x)))] ∧ x ≤ most + 1 ∧ untilN f 1 pos (rtN f) (most + 1) (apN f 1) 0 = untilN f 1 pos (rtN f) (most + 1 - x) (apN (tickK f x) 1) x) (0) ⟨(by rw [show tickK f 0 = f from rfl, show axK f ax 0 = ax from rfl, ← htk]; exact hP), hD.same rfl, hS, (lv_sub (l' := [(0, .ref st), (1, .int (nI (1))), (2, .int (nI (pos))), (3, .int (nI (most))), (4, .int (nI (0)))]) hl [1, 2, 3, 4, 0] rfl), by omega, rfl⟩ ?_
  intro x H locs ls ⟨hP, hD, hS, hl, hx1, hx2⟩ ih_3
  refine lv_iload hx hb dX0_ticksTo_3 (lv_at hl 4 rfl) ?_
  refine lv_iload_n hx hb dX0_ticksTo_5 rfl (lv_at hl 3 rfl) ?_
  refine lv_icmp_gt (tgt := 35) hx hb dX0_ticksTo_6 (by decide) (fun c_1 => ?_) (fun c_1 => ?_)
  · have c_1 := (nI_ltI (by omega) (by omega)).1 c_1
    refine lv_iload hx hb dX0_ticksTo_35 (lv_at hl 4 rfl) ?_
    refine lv_iload_n hx hb dX0_ticksTo_37 rfl (lv_at hl 3 rfl) ?_
    refine lv_icmp_gt (tgt := 46) hx hb dX0_ticksTo_38 (by decide) (fun c_2 => ?_) (fun c_2 => ?_)
    · have c_2 := (nI_ltI (by omega) (by omega)).1 c_2
      refine lv_iconst (v := (-1)) hx hb dX0_ticksTo_46 (by decide) ?_
      exact z_iret (v := (-1)) hx hb hr hS (⟨_, _, _, _, (by unfold tkC; rw [hx2, show most + 1 - x = 0 by omega]; exact (if_pos rfl).symm), hP, hD⟩) (by omega) (by omega) dX0_ticksTo_47
    · have c_2 := mt (nI_ltI (by omega) (by omega)).2 c_2
      omega
  · have c_1 := mt (nI_ltI (by omega) (by omega)).2 c_1
    have hb0 := tk_ap hI (b := 0) (by omega) x
    have hb1 := tk_ap hI (b := 1) (by omega) x
    have hc0 := (InvA_ap hI (b := 0) (by omega)).2.2.2
    have hc1 := (InvA_ap hI (b := 1) (by omega)).2.2.2
    refine lv_aload_n hx hb dX0_ticksTo_9 rfl (lv_at hl 0 rfl) ?_
    refine va_getN (D := D) (ci := 1) (v := .ref sa) (C := RX1) (T := TX1) (N := 10) hx hb hts in_X1 hown hK hP 0 rfl rfl 2 (by decide) (Cx.nF hC (List.mem_of_getElem? (i := 7) rfl)) (fun _ h9 => h9) rfl dX0_ticksTo_10 ?_
    refine lv_iload_n hx hb dX0_ticksTo_13 rfl (lv_at hl 1 rfl) ?_
    refine va_aldq hx hb hK (hZ.at hS) 3 4 rfl rfl (vp_in_nI (by omega) (by omega)) dX0_ticksTo_14 ?_
    refine lv_topv (y := .ref s1) (by rw [nI_clamp (by omega)]; rw [hg1]; rfl) ?_
    refine va_getN (D := D) (ci := 3) (v := .int (nI (apN (tickK f x) 1))) (C := RX3) (T := TX3) (N := 4) hx hb hts in_X3 hown hK hP 2 rfl rfl 1 (by decide) (Cx.nF hC (List.mem_of_getElem? (i := 2) rfl)) (fun _ h9 => h9) rfl dX0_ticksTo_15 ?_
    refine lv_iload_n hx hb dX0_ticksTo_18 rfl (lv_at hl 2 rfl) ?_
    refine lv_icmp_ge (tgt := 35) hx hb dX0_ticksTo_19 (by decide) (fun c_3 => ?_) (fun c_3 => ?_)
    · have c_3 := (nI_leI (by omega) (by omega)).1 c_3
      refine lv_iload hx hb dX0_ticksTo_35 (lv_at hl 4 rfl) ?_
      refine lv_iload_n hx hb dX0_ticksTo_37 rfl (lv_at hl 3 rfl) ?_
      refine lv_icmp_gt (tgt := 46) hx hb dX0_ticksTo_38 (by decide) (fun c_4 => ?_) (fun c_4 => ?_)
      · have c_4 := (nI_ltI (by omega) (by omega)).1 c_4
        omega
      · have c_4 := mt (nI_ltI (by omega) (by omega)).2 c_4
        refine lv_iload hx hb dX0_ticksTo_41 (lv_at hl 4 rfl) ?_
        refine lv_goto (tgt := 47) hx hb dX0_ticksTo_43 (by decide) ?_
        exact z_iret (v := nI (x)) hx hb hr hS (⟨_, _, _, _, (by unfold tkC; rw [hx2, show most + 1 - x = (most - x) + 1 by omega, untilN_end c_3, if_neg (nI_nNF (by omega))]), hP, hD⟩) (by omega) (by omega) dX0_ticksTo_47
    · have c_3 := mt (nI_leI (by omega) (by omega)).2 c_3
      refine lv_aload_n hx hb dX0_ticksTo_22 rfl (lv_at hl 0 rfl) ?_
      refine lv_iconst (v := nI (1)) hx hb dX0_ticksTo_23 (by decide) ?_
      refine z_cVi (As := [.int (nI (1))]) (rest := []) ⟨hx, hb, hml, hown, hts⟩ (mX1_passes l D dA ad A H.size st jn sl sa se (tickK f x 1) tl tr lc lr (axK f ax x) al mc ae n (tickK f x) h seg s0 ac0 b0 w0 sk0 W0 s1 ac1 b1 w1 sk1 W1 (rcN f 0) (apN (tickK f x) 0) (rcN f 1) (apN (tickK f x) 1) 1 (hA_up hA hS) (InvA_tickK hI x) (hn.trans (rN_tk f x).symm) (by omega) (rfl) (hs0.trans (tickK_s f x 7 (by omega) (by omega) (by omega)).symm) (hs1.trans (tickK_s f x 8 (by omega) (by omega) (by omega)).symm) (hg0) (hg1) (hW0) (ha0) ((sbf2_tk (by omega) x).trans hac0) (gapB_tk (by omega) hgp0 x) (hW1) (ha1) ((sbf2_tk (by omega) x).trans hac1) (gapB_tk (by omega) hgp1 x) ((rcN_tk (by omega) x).symm) (rfl) ((rcN_tk (by omega) x).symm) (rfl) (hD.sub [0, 1, 2] (by decide) rfl)) (cwV 1 hts (lw_V q794 q795 q796 q55 q797) rfl rfl rfl (by decide +kernel) ⟨Nat.le_of_ble_eq_true rfl, Nat.le_of_ble_eq_true rfl⟩) hC hS (fun _ h => h) ⟨(hP.sub (ws' := [(st, .inr (1, [.ref jn, .ref sl, .ref sa, .ref se, .int (tickK f x 1), .int tl, .int tr, .int lc, .int lr, .int (axK f ax x)])), (s0, .inr (3, [.int (nI (rcN f 0)), .int (nI (apN (tickK f x) 0)), .ref b0, .int (nI (ac0))])), (s1, .inr (3, [.int (nI (rcN f 1)), .int (nI (apN (tickK f x) 1)), .ref b1, .int (nI (ac1))]))]) [0, 1, 2] rfl), (zFz_mk ((hZ.at hS).sub (ws' := [(jn, .inr (2, [.ref al])), (al, .inr (9, [.int mc, .ref ae, .int (nI (n))])), (se, .inl (dA 0, 2, .inl seg)), (sa, .inl (dA 4, 2, .inr (.inr (.inr (.inr h))))), (b0, .inr (10, [.ref w0, .int (nI (uOf W0)), .int sk0])), (w0, .inl (dA 1, 2, .inr (.inl (lwd W0)))), (b1, .inr (10, [.ref w1, .int (nI (uOf W1)), .int sk1])), (w1, .inl (dA 1, 2, .inr (.inl (lwd W1))))]) [0, 1, 2, 3, 4, 5, 6, 7] rfl) (fun k q hk => by match k, hk with | 0, hk => cases hk; exact (hZ.out (q0 := 0) rfl) | 1, hk => cases hk; exact (hZ.out (q0 := 1) rfl) | 2, hk => cases hk; exact (hZ.out (q0 := 2) rfl) | 3, hk => cases hk; exact (hZ.out (q0 := 3) rfl) | 4, hk => cases hk; exact (hZ.out (q0 := 4) rfl) | 5, hk => cases hk; exact (hZ.out (q0 := 5) rfl) | 6, hk => cases hk; exact (hZ.out (q0 := 6) rfl) | 7, hk => cases hk; exact (hZ.out (q0 := 7) rfl) | k + 8, hk => simp at hk)), (hP2.kept hS).congr (fun r h1 _ w _ => rcf_tk f x h1 w)⟩ (va_recv hK hP (ci := 1) (q0 := 0) rfl rfl) rfl rfl hl.1 (Nat.le_of_ble_eq_true rfl) dX0_ticksTo_24 ⟨Nat.le_of_ble_eq_true rfl, Nat.le_of_ble_eq_true rfl⟩ (fun r_5 H locs hQ hF hS => ?_)
      obtain ⟨hQ, hP⟩ := hQ
      have hD := va_D.same (ws' := [(st, .inr (1, [.ref jn, .ref sl, .ref sa, .ref se, .int (tickK (tickK f x) 1 1), .int tl, .int tr, .int lc, .int lr, .int ((axK f ax x) + nI (tickS (tickK f x) 1))])), (s0, .inr (3, [.int (nI ((rcN f 0))), .int (nI (apN (tickK (tickK f x) 1) 0)), .ref b0, .int (nI (ac0))])), (s1, .inr (3, [.int (nI ((rcN f 1))), .int (nI (apN (tickK (tickK f x) 1) 1)), .ref b1, .int (nI (ac1))]))]) (hD.sub (ws' := [(st, .inr (1, [.ref jn, .ref sl, .ref sa, .ref se, .int (tickK f x 1), .int tl, .int tr, .int lc, .int lr, .int (axK f ax x)])), (s0, .inr (3, [.int (nI (rcN f 0)), .int (nI (apN (tickK f x) 0)), .ref b0, .int (nI (ac0))])), (s1, .inr (3, [.int (nI (rcN f 1)), .int (nI (apN (tickK f x) 1)), .ref b1, .int (nI (ac1))]))]) [0, 1, 2] (by decide) rfl) rfl
      have hP : va_P D vwCl [(st, .inr (1, [.ref jn, .ref sl, .ref sa, .ref se, .int (tickK (tickK f x) 1 1), .int tl, .int tr, .int lc, .int lr, .int ((axK f ax x) + nI (tickS (tickK f x) 1))])), (s0, .inr (3, [.int (nI ((rcN f 0))), .int (nI (apN (tickK (tickK f x) 1) 0)), .ref b0, .int (nI (ac0))])), (s1, .inr (3, [.int (nI ((rcN f 1))), .int (nI (apN (tickK (tickK f x) 1) 1)), .ref b1, .int (nI (ac1))]))] H := hP
      have hD : va_D A [(st, .inr (1, [.ref jn, .ref sl, .ref sa, .ref se, .int (tickK (tickK f x) 1 1), .int tl, .int tr, .int lc, .int lr, .int ((axK f ax x) + nI (tickS (tickK f x) 1))])), (s0, .inr (3, [.int (nI ((rcN f 0))), .int (nI (apN (tickK (tickK f x) 1) 0)), .ref b0, .int (nI (ac0))])), (s1, .inr (3, [.int (nI ((rcN f 1))), .int (nI (apN (tickK (tickK f x) 1) 1)), .ref b1, .int (nI (ac1))]))] := hD
      obtain rfl : nI (tickS (tickK f x) 1) = r_5 := hQ.symm
      refine lv_istore (lv' := [(5, .int (nI (tickS (tickK f x) 1))), (0, .ref st), (1, .int (nI (1))), (2, .int (nI (pos))), (3, .int (nI (most))), (4, .int (nI (x)))]) hx hb dX0_ticksTo_27 hl (by decide) rfl (fun ls hl => ?_)
      refine lv_iinc (v := nI (x + 1)) (lv' := [(4, .int (nI (x + 1))), (5, .int (nI (tickS (tickK f x) 1))), (0, .ref st), (1, .int (nI (1))), (2, .int (nI (pos))), (3, .int (nI (most)))]) hx hb dX0_ticksTo_29 hl (k := 5) rfl (nI_add _ _) (by decide) rfl (fun ls hl => ?_)
      refine lv_goto (tgt := 3) hx hb dX0_ticksTo_32 (by decide) ?_
      exact ih_3 (x + 1) H locs ls ⟨(by rw [show tickK f (x + 1) = tickK (tickK f x) 1 from rfl, show axK f ax (x + 1) = axK f ax x + nI (tickS (tickK f x) 1) from rfl]; exact hP.sub [0, 1, 2] rfl), (by rw [show tickK f (x + 1) = tickK (tickK f x) 1 from rfl, show axK f ax (x + 1) = axK f ax x + nI (tickS (tickK f x) 1) from rfl]; exact hD.sub [0, 1, 2] (by decide) rfl), hS, (lv_sub (l' := [(0, .ref st), (1, .int (nI (1))), (2, .int (nI (pos))), (3, .int (nI (most))), (4, .int (nI ((x + 1))))]) hl [2, 3, 4, 5, 0] rfl), by omega, by rw [hx2, show most + 1 - x = (most - x) + 1 by omega, untilN_step hI (by omega) (by omega), show most + 1 - (x + 1) = most - x by omega]⟩ (by omega)
