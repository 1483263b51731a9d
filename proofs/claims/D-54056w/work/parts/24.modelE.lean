set_option maxHeartbeats 4000000 in
set_option maxRecDepth 100000 in
theorem mX4_resend (l : Launch) (D : va_G) (dA : Nat → ClassId) (ad : Nat → Nat) (A : Nat → Prop) (sz : Nat) (m0 : Nat) (sa : Nat) (pa : Nat) (ha : Nat) (xa : Nat) (ta : Nat) (v4 : Int32) (v6 : Int32) (v7 : Int32) (v8 : Int32) (v9 : Int32) (v10 : Int32) (v11 : Int32) (v12 : Int32) (f : Nat → Int32) (ps : Nat) (g : Nat → Int32) (h : Nat → Int32) (tx : Nat → Int32) (td : Nat → Int32) (sb : Int32) (hA : ∀ q, sz ≤ q → A q) (hp4 : ps ≤ 4) (hI : InvA f) (hD : va_D A [(m0, .inr (4, [.ref sa, .ref pa, .ref ha, .int (nI (ps)), .int v4, .ref xa, .int v6, .int v7, .int v8, .int v9, .int v10, .int v11, .int v12, .ref ta])), (sa, .inl (dA 0, 718, .inl f)), (pa, .inl (dA 0, 2872, .inl g)), (ha, .inl (dA 0, 718, .inl h)), (xa, .inl (dA 0, 60, .inl tx)), (ta, .inl (dA 0, 3, .inl td))]) : Met l yX4_resend (ws_ yX4_resend cX4_resend 3 (some .int)) ({ frames := 2, cells := 0, slots := 0, locals := 60 }) (va_Pc [.ref m0, .int sb] (zP D dA ad A sz (fun H => va_P D vwCl [(m0, .inr (4, [.ref sa, .ref pa, .ref ha, .int (nI (ps)), .int v4, .ref xa, .int v6, .int v7, .int v8, .int v9, .int v10, .int v11, .int v12, .ref ta])), (sa, .inl (dA 0, 718, .inl f)), (pa, .inl (dA 0, 2872, .inl g)), (ha, .inl (dA 0, 718, .inl h)), (xa, .inl (dA 0, 60, .inl tx)), (ta, .inl (dA 0, 3, .inl td))] H))) (zQi (fun rz H => rz = (oResend f sb).2.1 ∧ va_P D vwCl [(m0, .inr (4, [.ref sa, .ref pa, .ref ha, .int (nI (gP (oResend f sb).1 v4 ps)), .int v4, .ref xa, .int v6, .int v7, .int v8, .int v9, .int v10, .int v11, .int v12, .ref ta])), (sa, .inl (dA 0, 718, .inl ((oResend f sb).2.2))), (pa, .inl (dA 0, 2872, .inl (gG (oResend f sb).1 v4 f g ps))), (ha, .inl (dA 0, 718, .inl h)), (xa, .inl (dA 0, 60, .inl tx)), (ta, .inl (dA 0, 3, .inl td))] H) A) (0) (0) A := by
  refine Met.ofW (cc := cX4_resend) (maxL := 3) (ret := (some .int)) (by decide) rfl ?_
  intro p e s m args below meth c s₁ B hml hv
  obtain ⟨rfl, hsz, hC, hP⟩ := hv
  have hx := B.exec
  have hb := B.bytes
  have hr := B.returns
  have hts := atoms_spec (ws := ws_ yX4_resend cX4_resend 3 (some .int)) B.pre
  have hts : ∀ w ∈ lw_all, w.before _ s = true := fun w h => hts w (List.mem_cons_of_mem _ h)
  have hown : s.vm.findClass RX4 = some m.cls := findClass_of_methodNamed B.named
  have hlocks := B.notSynchronized
  subst hsz
  have hK := hC.K
  have hS : va_S A s.heap s.heap [] := va_S.rf
  have hP : va_P D vwCl [(m0, .inr (4, [.ref sa, .ref pa, .ref ha, .int (nI (ps)), .int v4, .ref xa, .int v6, .int v7, .int v8, .int v9, .int v10, .int v11, .int v12, .ref ta])), (sa, .inl (dA 0, 718, .inl f)), (pa, .inl (dA 0, 2872, .inl g)), (ha, .inl (dA 0, 718, .inl h)), (xa, .inl (dA 0, 60, .inl tx)), (ta, .inl (dA 0, 3, .inl td))] s.heap := hP
  have hI0 := hI
  obtain ⟨hf0, hn, hsb, hrt, hrt2⟩ := hI
  have hl := lv_entry ([.ref m0, .int sb]) (n := 3) (Nat.le_of_ble_eq_true rfl)
  rw [lg_entry_eq]
  generalize (lg_sl ([.ref m0, .int sb]) ++ List.replicate (3 - (lg_sl ([.ref m0, .int sb])).length) Slot.unset).toArray = ls at hl ⊢
  have hl : lv_has ls 3 [(0, .ref m0), (1, .int sb)] := hl
  refine lv_iload_n hx hb dX4_resend_0 rfl (lv_at hl 1 rfl) ?_
  refine z_cSi (As := [.int sb]) (rest := []) ⟨hx, hb, hml, hown, hts⟩ (mX4_isStandby l D dA ad s.heap.size sb) (va_cwS 1 hts (lw_S q1417 q1418 q67 q1419) rfl rfl rfl (by decide +kernel) ⟨Nat.le_of_ble_eq_true rfl, Nat.le_of_ble_eq_true rfl⟩) hC hS (fun _ h => hA _ (Nat.le_trans hS.1 h)) trivial rfl rfl hl.1 (Nat.le_of_ble_eq_true rfl) dX4_resend_1 ⟨Nat.le_of_ble_eq_true rfl, Nat.le_of_ble_eq_true rfl⟩ (fun r_1 H locs hQ hF hS => ?_)
  have hP := va_P.ro hF hP
  obtain rfl : bI (nI (0) ≤ sb ∧ sb ≤ nI (1)) = r_1 := hQ.symm
  refine lv_if_ne (tgt := 10) hx hb dX4_resend_4 (by decide) (fun c_2 => ?_) (fun c_2 => ?_)
  · have c_2 := bI_1.1 c_2
    obtain ⟨b, h1, rfl⟩ := zr_of (N := 1) c_2 (by decide)
    have h1 : b < 2 := (by omega)
    obtain ⟨hrc, hap, har, hrl⟩ := hsb b h1
    refine lv_aload_n hx hb dX4_resend_10 rfl (lv_at hl 0 rfl) ?_
    refine lv_iload_n hx hb dX4_resend_11 rfl (lv_at hl 1 rfl) ?_
    refine lv_iconst (v := nI (2)) hx hb dX4_resend_12 (by decide) ?_
    refine z_cVi (As := [.int (nI (b)), .int (nI (2))]) (rest := []) ⟨hx, hb, hml, hown, hts⟩ (mX4_ofStandby l D dA ad H.size m0 sa pa ha xa ta (nI (ps)) v4 v6 v7 v8 v9 v10 v11 v12 f b 2 (by omega) (by omega)) (cwV 2 hts (lw_V q1420 q1422 qs30 q67 q1423) rfl rfl rfl (by decide +kernel) ⟨Nat.le_of_ble_eq_true rfl, Nat.le_of_ble_eq_true rfl⟩) hC hS (fun _ h => hA _ (Nat.le_trans hS.1 h)) (hP.sub (ws' := [(m0, .inr (4, [.ref sa, .ref pa, .ref ha, .int (nI (ps)), .int v4, .ref xa, .int v6, .int v7, .int v8, .int v9, .int v10, .int v11, .int v12, .ref ta])), (sa, .inl (dA 0, 718, .inl f))]) [0, 1] rfl) (va_recv hK hP (ci := 4) (q0 := 0) rfl rfl) rfl rfl hl.1 (Nat.le_of_ble_eq_true rfl) dX4_resend_13 ⟨Nat.le_of_ble_eq_true rfl, Nat.le_of_ble_eq_true rfl⟩ (fun r_3 H locs hQ hF hS => ?_)
    have hP := va_P.ro hF hP
    obtain rfl : sbf f b 2 = r_3 := hQ.symm
    refine lv_iconst (v := nI (1)) hx hb dX4_resend_16 (by decide) ?_
    refine lv_icmp_ne (tgt := 23) hx hb dX4_resend_17 (by decide) (fun c_4 => ?_) (fun c_4 => ?_)
    · refine lv_aload_n hx hb dX4_resend_23 rfl (lv_at hl 0 rfl) ?_
      refine z_cVv (As := []) (rest := []) ⟨hx, hb, hml, hown, hts⟩ (mX4_changes l D dA ad A H.size m0 sa pa ha xa ta v4 v6 v7 v8 v9 v10 v11 v12 f ps g h tx td (hA_up hA hS) (by omega) (hD.sub [0, 1, 2, 3, 4, 5] (by decide) rfl)) (cwV 0 hts (lw_V q1384 q1386 qs27 q67 q1387) rfl rfl rfl (by decide +kernel) ⟨Nat.le_of_ble_eq_true rfl, Nat.le_of_ble_eq_true rfl⟩) hC hS (fun _ h => h) (hP.sub (ws' := [(m0, .inr (4, [.ref sa, .ref pa, .ref ha, .int (nI (ps)), .int v4, .ref xa, .int v6, .int v7, .int v8, .int v9, .int v10, .int v11, .int v12, .ref ta])), (sa, .inl (dA 0, 718, .inl f)), (pa, .inl (dA 0, 2872, .inl g)), (ha, .inl (dA 0, 718, .inl h)), (xa, .inl (dA 0, 60, .inl tx)), (ta, .inl (dA 0, 3, .inl td))]) [0, 1, 2, 3, 4, 5] rfl) (va_recv hK hP (ci := 4) (q0 := 0) rfl rfl) rfl rfl hl.1 (Nat.le_of_ble_eq_true rfl) dX4_resend_24 ⟨Nat.le_of_ble_eq_true rfl, Nat.le_of_ble_eq_true rfl⟩ (fun H locs hQ hF hS => ?_)
      obtain ⟨hQ, hP⟩ := hQ
      have hD := va_D.same (ws' := [(m0, .inr (4, [.ref sa, .ref pa, .ref ha, .int (nI (chP v4 ps)), .int v4, .ref xa, .int v6, .int v7, .int v8, .int v9, .int v10, .int v11, .int v12, .ref ta])), (sa, .inl (dA 0, 718, .inl f)), (pa, .inl (dA 0, 2872, .inl (chG v4 f g ps))), (ha, .inl (dA 0, 718, .inl h)), (xa, .inl (dA 0, 60, .inl tx)), (ta, .inl (dA 0, 3, .inl td))]) (hD.sub (ws' := [(m0, .inr (4, [.ref sa, .ref pa, .ref ha, .int (nI (ps)), .int v4, .ref xa, .int v6, .int v7, .int v8, .int v9, .int v10, .int v11, .int v12, .ref ta])), (sa, .inl (dA 0, 718, .inl f)), (pa, .inl (dA 0, 2872, .inl g)), (ha, .inl (dA 0, 718, .inl h)), (xa, .inl (dA 0, 60, .inl tx)), (ta, .inl (dA 0, 3, .inl td))]) [0, 1, 2, 3, 4, 5] (by decide) rfl) rfl
      have hP : va_P D vwCl [(m0, .inr (4, [.ref sa, .ref pa, .ref ha, .int (nI (chP v4 ps)), .int v4, .ref xa, .int v6, .int v7, .int v8, .int v9, .int v10, .int v11, .int v12, .ref ta])), (sa, .inl (dA 0, 718, .inl f)), (pa, .inl (dA 0, 2872, .inl (chG v4 f g ps))), (ha, .inl (dA 0, 718, .inl h)), (xa, .inl (dA 0, 60, .inl tx)), (ta, .inl (dA 0, 3, .inl td))] H := hP
      have hD : va_D A [(m0, .inr (4, [.ref sa, .ref pa, .ref ha, .int (nI (chP v4 ps)), .int v4, .ref xa, .int v6, .int v7, .int v8, .int v9, .int v10, .int v11, .int v12, .ref ta])), (sa, .inl (dA 0, 718, .inl f)), (pa, .inl (dA 0, 2872, .inl (chG v4 f g ps))), (ha, .inl (dA 0, 718, .inl h)), (xa, .inl (dA 0, 60, .inl tx)), (ta, .inl (dA 0, 3, .inl td))] := hD
      refine lv_aload_n hx hb dX4_resend_27 rfl (lv_at hl 0 rfl) ?_
      refine lv_iload_n hx hb dX4_resend_28 rfl (lv_at hl 1 rfl) ?_
      refine z_cVi (As := [.int (nI (b))]) (rest := []) ⟨hx, hb, hml, hown, hts⟩ (mX4_gaps l D dA ad H.size m0 sa pa ha xa ta (nI (chP v4 ps)) v4 v6 v7 v8 v9 v10 v11 v12 f b (by omega)) (cwV 1 hts (lw_V q1432 q1434 qs32 q67 q1435) rfl rfl rfl (by decide +kernel) ⟨Nat.le_of_ble_eq_true rfl, Nat.le_of_ble_eq_true rfl⟩) hC hS (fun _ h => hA _ (Nat.le_trans hS.1 h)) (hP.sub (ws' := [(m0, .inr (4, [.ref sa, .ref pa, .ref ha, .int (nI (chP v4 ps)), .int v4, .ref xa, .int v6, .int v7, .int v8, .int v9, .int v10, .int v11, .int v12, .ref ta])), (sa, .inl (dA 0, 718, .inl f))]) [0, 1] rfl) (va_recv hK hP (ci := 4) (q0 := 0) rfl rfl) rfl rfl hl.1 (Nat.le_of_ble_eq_true rfl) dX4_resend_29 ⟨Nat.le_of_ble_eq_true rfl, Nat.le_of_ble_eq_true rfl⟩ (fun r_6 H locs hQ hF hS => ?_)
      have hP := va_P.ro hF hP
      obtain rfl : nI (gaps f b 100) = r_6 := hQ.symm
      refine lv_istore_n (lv' := [(2, .int (nI (gaps f b 100))), (0, .ref m0), (1, .int (nI (b)))]) hx hb dX4_resend_32 rfl hl (by decide) rfl (fun ls hl => ?_)
      refine lv_aload_n hx hb dX4_resend_33 rfl (lv_at hl 1 rfl) ?_
      refine lv_iload_n hx hb dX4_resend_34 rfl (lv_at hl 2 rfl) ?_
      refine lv_iconst (v := nI (0)) hx hb dX4_resend_35 (by decide) ?_
      refine z_cVv (As := [.int (nI (b)), .int (nI (0))]) (rest := []) ⟨hx, hb, hml, hown, hts⟩ (mX4_fillsGaps l D dA ad A H.size m0 sa pa ha xa ta v4 v6 v7 v8 v9 v10 v11 v12 f (chP v4 ps) (chG v4 f g ps) h tx td b 0 (hA_up hA hS) (by omega) (by omega) (hD.sub [0, 1, 2, 3, 4, 5] (by decide) rfl)) (cwV 2 hts (lw_V q1440 q1442 qs33 q67 q1443) rfl rfl rfl (by decide +kernel) ⟨Nat.le_of_ble_eq_true rfl, Nat.le_of_ble_eq_true rfl⟩) hC hS (fun _ h => h) (hP.sub (ws' := [(m0, .inr (4, [.ref sa, .ref pa, .ref ha, .int (nI (chP v4 ps)), .int v4, .ref xa, .int v6, .int v7, .int v8, .int v9, .int v10, .int v11, .int v12, .ref ta])), (sa, .inl (dA 0, 718, .inl f)), (pa, .inl (dA 0, 2872, .inl (chG v4 f g ps))), (ha, .inl (dA 0, 718, .inl h)), (xa, .inl (dA 0, 60, .inl tx)), (ta, .inl (dA 0, 3, .inl td))]) [0, 1, 2, 3, 4, 5] rfl) (va_recv hK hP (ci := 4) (q0 := 0) rfl rfl) rfl rfl hl.1 (Nat.le_of_ble_eq_true rfl) dX4_resend_36 ⟨Nat.le_of_ble_eq_true rfl, Nat.le_of_ble_eq_true rfl⟩ (fun H locs hQ hF hS => ?_)
      obtain ⟨hQ, hP⟩ := hQ
      have hD := va_D.same (ws' := [(m0, .inr (4, [.ref sa, .ref pa, .ref ha, .int (nI ((chP v4 ps))), .int v4, .ref xa, .int v6, .int v7, .int v8, .int v9, .int v10, .int v11, .int v12, .ref ta])), (sa, .inl (dA 0, 718, .inl (fillG f b 0))), (pa, .inl (dA 0, 2872, .inl (chG v4 f g ps))), (ha, .inl (dA 0, 718, .inl h)), (xa, .inl (dA 0, 60, .inl tx)), (ta, .inl (dA 0, 3, .inl td))]) (hD.sub (ws' := [(m0, .inr (4, [.ref sa, .ref pa, .ref ha, .int (nI (chP v4 ps)), .int v4, .ref xa, .int v6, .int v7, .int v8, .int v9, .int v10, .int v11, .int v12, .ref ta])), (sa, .inl (dA 0, 718, .inl f)), (pa, .inl (dA 0, 2872, .inl (chG v4 f g ps))), (ha, .inl (dA 0, 718, .inl h)), (xa, .inl (dA 0, 60, .inl tx)), (ta, .inl (dA 0, 3, .inl td))]) [0, 1, 2, 3, 4, 5] (by decide) rfl) rfl
      have hP : va_P D vwCl [(m0, .inr (4, [.ref sa, .ref pa, .ref ha, .int (nI ((chP v4 ps))), .int v4, .ref xa, .int v6, .int v7, .int v8, .int v9, .int v10, .int v11, .int v12, .ref ta])), (sa, .inl (dA 0, 718, .inl (fillG f b 0))), (pa, .inl (dA 0, 2872, .inl (chG v4 f g ps))), (ha, .inl (dA 0, 718, .inl h)), (xa, .inl (dA 0, 60, .inl tx)), (ta, .inl (dA 0, 3, .inl td))] H := hP
      have hD : va_D A [(m0, .inr (4, [.ref sa, .ref pa, .ref ha, .int (nI ((chP v4 ps))), .int v4, .ref xa, .int v6, .int v7, .int v8, .int v9, .int v10, .int v11, .int v12, .ref ta])), (sa, .inl (dA 0, 718, .inl (fillG f b 0))), (pa, .inl (dA 0, 2872, .inl (chG v4 f g ps))), (ha, .inl (dA 0, 718, .inl h)), (xa, .inl (dA 0, 60, .inl tx)), (ta, .inl (dA 0, 3, .inl td))] := hD
      refine lv_iload_n hx hb dX4_resend_39 rfl (lv_at hl 0 rfl) ?_
      exact z_iret (v := nI (gaps f b 100)) hx hb hr hS (by rw [show oResend f (nI (b)) = (true, nI (gaps f b 100), fillG f b 0) from by unfold oResend; simp only [nI_clamp (show b < 2 ^ 31 by omega)]; (repeat' split) <;> first | rfl | contradiction | (exfalso; simp_all; done)]; exact ⟨rfl, hP⟩) (by omega) (by omega) dX4_resend_40
    · refine lv_ldc (v := (-1000002)) hx hb hown (hts _ q1383) dX4_resend_20 ?_
      exact z_iret (v := (-1000002)) hx hb hr hS (by rw [show oResend f (nI (b)) = (false, (-1000002), f) from by unfold oResend; simp only [nI_clamp (show b < 2 ^ 31 by omega)]; (repeat' split) <;> first | rfl | contradiction | (exfalso; simp_all; done)]; exact ⟨rfl, hP⟩) (by omega) (by omega) dX4_resend_22
  · have c_2 := bI_0.1 c_2
    refine lv_ldc (v := (-1000001)) hx hb hown (hts _ q1382) dX4_resend_7 ?_
    exact z_iret (v := (-1000001)) hx hb hr hS (by rw [show oResend f sb = (false, (-1000001), f) from by unfold oResend; (repeat' split) <;> first | rfl | contradiction | (exfalso; simp_all; done)]; exact ⟨rfl, hP⟩) (by omega) (by omega) dX4_resend_9

set_option maxHeartbeats 4000000 in
set_option maxRecDepth 100000 in
theorem mX4_lays (l : Launch) (D : va_G) (dA : Nat → ClassId) (ad : Nat → Nat) (A : Nat → Prop) (sz : Nat) (m0 : Nat) (sa : Nat) (pa : Nat) (ha : Nat) (xa : Nat) (ta : Nat) (v4 : Int32) (v6 : Int32) (v7 : Int32) (v8 : Int32) (v9 : Int32) (v10 : Int32) (v11 : Int32) (v12 : Int32) (f : Nat → Int32) (ps : Nat) (g : Nat → Int32) (h : Nat → Int32) (tx : Nat → Int32) (td : Nat → Int32) (b : Nat) (q : Nat) (w : Int32) (hA : ∀ q, sz ≤ q → A q) (h1 : b < 2) (hD : va_D A [(m0, .inr (4, [.ref sa, .ref pa, .ref ha, .int (nI (ps)), .int v4, .ref xa, .int v6, .int v7, .int v8, .int v9, .int v10, .int v11, .int v12, .ref ta])), (sa, .inl (dA 0, 718, .inl f)), (pa, .inl (dA 0, 2872, .inl g)), (ha, .inl (dA 0, 718, .inl h)), (xa, .inl (dA 0, 60, .inl tx)), (ta, .inl (dA 0, 3, .inl td))]) : Met l yX4_lays (ws_ yX4_lays cX4_lays 4 none) ({ frames := 1, cells := 0, slots := 0, locals := 30 }) (va_Pc [.ref m0, .int (nI (b)), .int (nI (q)), .int w] (zP D dA ad A sz (fun H => va_P D vwCl [(m0, .inr (4, [.ref sa, .ref pa, .ref ha, .int (nI (ps)), .int v4, .ref xa, .int v6, .int v7, .int v8, .int v9, .int v10, .int v11, .int v12, .ref ta])), (sa, .inl (dA 0, 718, .inl f)), (pa, .inl (dA 0, 2872, .inl g)), (ha, .inl (dA 0, 718, .inl h)), (xa, .inl (dA 0, 60, .inl tx)), (ta, .inl (dA 0, 3, .inl td))] H))) (zQv (fun H => True ∧ va_P D vwCl [(m0, .inr (4, [.ref sa, .ref pa, .ref ha, .int (nI (ps)), .int v4, .ref xa, .int v6, .int v7, .int v8, .int v9, .int v10, .int v11, .int v12, .ref ta])), (sa, .inl (dA 0, 718, .inl (laysF f b q w))), (pa, .inl (dA 0, 2872, .inl g)), (ha, .inl (dA 0, 718, .inl h)), (xa, .inl (dA 0, 60, .inl tx)), (ta, .inl (dA 0, 3, .inl td))] H) A) (0) (0) A := by
  refine Met.ofW (cc := cX4_lays) (maxL := 4) (ret := none) (by decide) rfl ?_
  intro p e s m args below meth c s₁ B hml hv
  obtain ⟨rfl, hsz, hC, hP⟩ := hv
  have hx := B.exec
  have hb := B.bytes
  have hr := B.returns
  have hts := atoms_spec (ws := ws_ yX4_lays cX4_lays 4 none) B.pre
  have hts : ∀ w ∈ lw_all, w.before _ s = true := fun w h => hts w (List.mem_cons_of_mem _ h)
  have hown : s.vm.findClass RX4 = some m.cls := findClass_of_methodNamed B.named
  have hlocks := B.notSynchronized
  subst hsz
  have hK := hC.K
  have hS : va_S A s.heap s.heap [] := va_S.rf
  have hP : va_P D vwCl [(m0, .inr (4, [.ref sa, .ref pa, .ref ha, .int (nI (ps)), .int v4, .ref xa, .int v6, .int v7, .int v8, .int v9, .int v10, .int v11, .int v12, .ref ta])), (sa, .inl (dA 0, 718, .inl f)), (pa, .inl (dA 0, 2872, .inl g)), (ha, .inl (dA 0, 718, .inl h)), (xa, .inl (dA 0, 60, .inl tx)), (ta, .inl (dA 0, 3, .inl td))] s.heap := hP
  have hl := lv_entry ([.ref m0, .int (nI (b)), .int (nI (q)), .int w]) (n := 4) (Nat.le_of_ble_eq_true rfl)
  rw [lg_entry_eq]
  generalize (lg_sl ([.ref m0, .int (nI (b)), .int (nI (q)), .int w]) ++ List.replicate (4 - (lg_sl ([.ref m0, .int (nI (b)), .int (nI (q)), .int w])).length) Slot.unset).toArray = ls at hl ⊢
  have hl : lv_has ls 4 [(0, .ref m0), (1, .int (nI (b))), (2, .int (nI (q))), (3, .int w)] := hl
  refine lv_aload_n hx hb dX4_lays_0 rfl (lv_at hl 0 rfl) ?_
  refine va_get (D := D) (ci := 4) (v := .ref sa) (C := RX4) (T := TX4) (N := 14) hx hb hts in_X4 hown hK hP 0 rfl rfl 0 (by decide) (hts _ q1329) (fun _ h9 => h9) rfl dX4_lays_1 ?_
  refine lv_bipush (v := nI (12)) hx hb dX4_lays_4 (by decide) ?_
  refine lv_iconst (v := nI (3)) hx hb dX4_lays_6 (by decide) ?_
  refine lv_iload_n hx hb dX4_lays_7 rfl (lv_at hl 1 rfl) ?_
  refine lv_imul hx hb dX4_lays_8 ?_
  refine lv_tope (y := nI (3 * b)) (pk_mul _ _) ?_
  refine lv_iadd hx hb dX4_lays_9 ?_
  refine lv_tope (y := nI (12 + (3 * b))) (nI_add _ _) ?_
  refine lv_iconst (v := nI (0)) hx hb dX4_lays_10 (by decide) ?_
  refine lv_iadd hx hb dX4_lays_11 ?_
  refine lv_tope (y := nI ((12 + (3 * b)) + 0)) (nI_add _ _) ?_
  refine lv_iload_n hx hb dX4_lays_12 rfl (lv_at hl 2 rfl) ?_
  refine va_iast hx hb hK hP hD hS 1 0 rfl rfl (vp_in_nI (by omega) (by omega)) dX4_lays_13 (fun H locs hP hD hS => ?_)
  rw [nI_clamp (by omega)] at hP hD
  have hP : va_P D vwCl [(m0, .inr (4, [.ref sa, .ref pa, .ref ha, .int (nI (ps)), .int v4, .ref xa, .int v6, .int v7, .int v8, .int v9, .int v10, .int v11, .int v12, .ref ta])), (sa, .inl (dA 0, 718, .inl (upd f ((12 + (3 * b)) + 0) (nI (q))))), (pa, .inl (dA 0, 2872, .inl g)), (ha, .inl (dA 0, 718, .inl h)), (xa, .inl (dA 0, 60, .inl tx)), (ta, .inl (dA 0, 3, .inl td))] H := hP
  have hD : va_D A [(m0, .inr (4, [.ref sa, .ref pa, .ref ha, .int (nI (ps)), .int v4, .ref xa, .int v6, .int v7, .int v8, .int v9, .int v10, .int v11, .int v12, .ref ta])), (sa, .inl (dA 0, 718, .inl (upd f ((12 + (3 * b)) + 0) (nI (q))))), (pa, .inl (dA 0, 2872, .inl g)), (ha, .inl (dA 0, 718, .inl h)), (xa, .inl (dA 0, 60, .inl tx)), (ta, .inl (dA 0, 3, .inl td))] := hD
  refine lv_aload_n hx hb dX4_lays_14 rfl (lv_at hl 0 rfl) ?_
  refine va_get (D := D) (ci := 4) (v := .ref sa) (C := RX4) (T := TX4) (N := 14) hx hb hts in_X4 hown hK hP 0 rfl rfl 0 (by decide) (hts _ q1329) (fun _ h9 => h9) rfl dX4_lays_15 ?_
  refine lv_bipush (v := nI (12)) hx hb dX4_lays_18 (by decide) ?_
  refine lv_iconst (v := nI (3)) hx hb dX4_lays_20 (by decide) ?_
  refine lv_iload_n hx hb dX4_lays_21 rfl (lv_at hl 1 rfl) ?_
  refine lv_imul hx hb dX4_lays_22 ?_
  refine lv_tope (y := nI (3 * b)) (pk_mul _ _) ?_
  refine lv_iadd hx hb dX4_lays_23 ?_
  refine lv_tope (y := nI (12 + (3 * b))) (nI_add _ _) ?_
  refine lv_iconst (v := nI (1)) hx hb dX4_lays_24 (by decide) ?_
  refine lv_iadd hx hb dX4_lays_25 ?_
  refine lv_tope (y := nI ((12 + (3 * b)) + 1)) (nI_add _ _) ?_
  refine lv_iload_n hx hb dX4_lays_26 rfl (lv_at hl 2 rfl) ?_
  refine va_iast hx hb hK hP hD hS 1 0 rfl rfl (vp_in_nI (by omega) (by omega)) dX4_lays_27 (fun H locs hP hD hS => ?_)
  rw [nI_clamp (by omega)] at hP hD
  have hP : va_P D vwCl [(m0, .inr (4, [.ref sa, .ref pa, .ref ha, .int (nI (ps)), .int v4, .ref xa, .int v6, .int v7, .int v8, .int v9, .int v10, .int v11, .int v12, .ref ta])), (sa, .inl (dA 0, 718, .inl (upd (upd f ((12 + (3 * b)) + 0) (nI (q))) ((12 + (3 * b)) + 1) (nI (q))))), (pa, .inl (dA 0, 2872, .inl g)), (ha, .inl (dA 0, 718, .inl h)), (xa, .inl (dA 0, 60, .inl tx)), (ta, .inl (dA 0, 3, .inl td))] H := hP
  have hD : va_D A [(m0, .inr (4, [.ref sa, .ref pa, .ref ha, .int (nI (ps)), .int v4, .ref xa, .int v6, .int v7, .int v8, .int v9, .int v10, .int v11, .int v12, .ref ta])), (sa, .inl (dA 0, 718, .inl (upd (upd f ((12 + (3 * b)) + 0) (nI (q))) ((12 + (3 * b)) + 1) (nI (q))))), (pa, .inl (dA 0, 2872, .inl g)), (ha, .inl (dA 0, 718, .inl h)), (xa, .inl (dA 0, 60, .inl tx)), (ta, .inl (dA 0, 3, .inl td))] := hD
  refine lv_aload_n hx hb dX4_lays_28 rfl (lv_at hl 0 rfl) ?_
  refine va_get (D := D) (ci := 4) (v := .ref sa) (C := RX4) (T := TX4) (N := 14) hx hb hts in_X4 hown hK hP 0 rfl rfl 0 (by decide) (hts _ q1329) (fun _ h9 => h9) rfl dX4_lays_29 ?_
  refine lv_bipush (v := nI (12)) hx hb dX4_lays_32 (by decide) ?_
  refine lv_iconst (v := nI (3)) hx hb dX4_lays_34 (by decide) ?_
  refine lv_iload_n hx hb dX4_lays_35 rfl (lv_at hl 1 rfl) ?_
  refine lv_imul hx hb dX4_lays_36 ?_
  refine lv_tope (y := nI (3 * b)) (pk_mul _ _) ?_
  refine lv_iadd hx hb dX4_lays_37 ?_
  refine lv_tope (y := nI (12 + (3 * b))) (nI_add _ _) ?_
  refine lv_iconst (v := nI (2)) hx hb dX4_lays_38 (by decide) ?_
  refine lv_iadd hx hb dX4_lays_39 ?_
  refine lv_tope (y := nI ((12 + (3 * b)) + 2)) (nI_add _ _) ?_
  refine lv_iload_n hx hb dX4_lays_40 rfl (lv_at hl 3 rfl) ?_
  refine va_iast hx hb hK hP hD hS 1 0 rfl rfl (vp_in_nI (by omega) (by omega)) dX4_lays_41 (fun H locs hP hD hS => ?_)
  rw [nI_clamp (by omega)] at hP hD
  have hP : va_P D vwCl [(m0, .inr (4, [.ref sa, .ref pa, .ref ha, .int (nI (ps)), .int v4, .ref xa, .int v6, .int v7, .int v8, .int v9, .int v10, .int v11, .int v12, .ref ta])), (sa, .inl (dA 0, 718, .inl (upd (upd (upd f ((12 + (3 * b)) + 0) (nI (q))) ((12 + (3 * b)) + 1) (nI (q))) ((12 + (3 * b)) + 2) w))), (pa, .inl (dA 0, 2872, .inl g)), (ha, .inl (dA 0, 718, .inl h)), (xa, .inl (dA 0, 60, .inl tx)), (ta, .inl (dA 0, 3, .inl td))] H := hP
  have hD : va_D A [(m0, .inr (4, [.ref sa, .ref pa, .ref ha, .int (nI (ps)), .int v4, .ref xa, .int v6, .int v7, .int v8, .int v9, .int v10, .int v11, .int v12, .ref ta])), (sa, .inl (dA 0, 718, .inl (upd (upd (upd f ((12 + (3 * b)) + 0) (nI (q))) ((12 + (3 * b)) + 1) (nI (q))) ((12 + (3 * b)) + 2) w))), (pa, .inl (dA 0, 2872, .inl g)), (ha, .inl (dA 0, 718, .inl h)), (xa, .inl (dA 0, 60, .inl tx)), (ta, .inl (dA 0, 3, .inl td))] := hD
  refine lv_aload_n hx hb dX4_lays_42 rfl (lv_at hl 0 rfl) ?_
  refine lv_iload_n hx hb dX4_lays_43 rfl (lv_at hl 1 rfl) ?_
  refine lv_iconst (v := nI (0)) hx hb dX4_lays_44 (by decide) ?_
  refine z_cVv (As := [.int (nI (b)), .int (nI (0))]) (rest := []) ⟨hx, hb, hml, hown, hts⟩ (mX4_fillsGaps l D dA ad A H.size m0 sa pa ha xa ta v4 v6 v7 v8 v9 v10 v11 v12 (upd (upd (upd f ((12 + (3 * b)) + 0) (nI (q))) ((12 + (3 * b)) + 1) (nI (q))) ((12 + (3 * b)) + 2) w) ps g h tx td b 0 (hA_up hA hS) (by omega) (by omega) (hD.sub [0, 1, 2, 3, 4, 5] (by decide) rfl)) (cwV 2 hts (lw_V q1440 q1442 qs33 q67 q1443) rfl rfl rfl (by decide +kernel) ⟨Nat.le_of_ble_eq_true rfl, Nat.le_of_ble_eq_true rfl⟩) hC hS (fun _ h => h) (hP.sub (ws' := [(m0, .inr (4, [.ref sa, .ref pa, .ref ha, .int (nI (ps)), .int v4, .ref xa, .int v6, .int v7, .int v8, .int v9, .int v10, .int v11, .int v12, .ref ta])), (sa, .inl (dA 0, 718, .inl (upd (upd (upd f ((12 + (3 * b)) + 0) (nI (q))) ((12 + (3 * b)) + 1) (nI (q))) ((12 + (3 * b)) + 2) w))), (pa, .inl (dA 0, 2872, .inl g)), (ha, .inl (dA 0, 718, .inl h)), (xa, .inl (dA 0, 60, .inl tx)), (ta, .inl (dA 0, 3, .inl td))]) [0, 1, 2, 3, 4, 5] rfl) (va_recv hK hP (ci := 4) (q0 := 0) rfl rfl) rfl rfl hl.1 (Nat.le_of_ble_eq_true rfl) dX4_lays_45 ⟨Nat.le_of_ble_eq_true rfl, Nat.le_of_ble_eq_true rfl⟩ (fun H locs hQ hF hS => ?_)
  obtain ⟨hQ, hP⟩ := hQ
  have hD := va_D.same (ws' := [(m0, .inr (4, [.ref sa, .ref pa, .ref ha, .int (nI (ps)), .int v4, .ref xa, .int v6, .int v7, .int v8, .int v9, .int v10, .int v11, .int v12, .ref ta])), (sa, .inl (dA 0, 718, .inl (fillG (upd (upd (upd f ((12 + (3 * b)) + 0) (nI (q))) ((12 + (3 * b)) + 1) (nI (q))) ((12 + (3 * b)) + 2) w) b 0))), (pa, .inl (dA 0, 2872, .inl g)), (ha, .inl (dA 0, 718, .inl h)), (xa, .inl (dA 0, 60, .inl tx)), (ta, .inl (dA 0, 3, .inl td))]) (hD.sub (ws' := [(m0, .inr (4, [.ref sa, .ref pa, .ref ha, .int (nI (ps)), .int v4, .ref xa, .int v6, .int v7, .int v8, .int v9, .int v10, .int v11, .int v12, .ref ta])), (sa, .inl (dA 0, 718, .inl (upd (upd (upd f ((12 + (3 * b)) + 0) (nI (q))) ((12 + (3 * b)) + 1) (nI (q))) ((12 + (3 * b)) + 2) w))), (pa, .inl (dA 0, 2872, .inl g)), (ha, .inl (dA 0, 718, .inl h)), (xa, .inl (dA 0, 60, .inl tx)), (ta, .inl (dA 0, 3, .inl td))]) [0, 1, 2, 3, 4, 5] (by decide) rfl) rfl
  have hP : va_P D vwCl [(m0, .inr (4, [.ref sa, .ref pa, .ref ha, .int (nI (ps)), .int v4, .ref xa, .int v6, .int v7, .int v8, .int v9, .int v10, .int v11, .int v12, .ref ta])), (sa, .inl (dA 0, 718, .inl (fillG (upd (upd (upd f ((12 + (3 * b)) + 0) (nI (q))) ((12 + (3 * b)) + 1) (nI (q))) ((12 + (3 * b)) + 2) w) b 0))), (pa, .inl (dA 0, 2872, .inl g)), (ha, .inl (dA 0, 718, .inl h)), (xa, .inl (dA 0, 60, .inl tx)), (ta, .inl (dA 0, 3, .inl td))] H := hP
  have hD : va_D A [(m0, .inr (4, [.ref sa, .ref pa, .ref ha, .int (nI (ps)), .int v4, .ref xa, .int v6, .int v7, .int v8, .int v9, .int v10, .int v11, .int v12, .ref ta])), (sa, .inl (dA 0, 718, .inl (fillG (upd (upd (upd f ((12 + (3 * b)) + 0) (nI (q))) ((12 + (3 * b)) + 1) (nI (q))) ((12 + (3 * b)) + 2) w) b 0))), (pa, .inl (dA 0, 2872, .inl g)), (ha, .inl (dA 0, 718, .inl h)), (xa, .inl (dA 0, 60, .inl tx)), (ta, .inl (dA 0, 3, .inl td))] := hD
  exact z_vret hx hb hr hS (⟨trivial, hP⟩) (by omega) (by omega) dX4_lays_48

set_option maxHeartbeats 4000000 in
set_option maxRecDepth 100000 in
theorem mX4_rebuild (l : Launch) (D : va_G) (dA : Nat → ClassId) (ad : Nat → Nat) (A : Nat → Prop) (sz : Nat) (m0 : Nat) (sa : Nat) (pa : Nat) (ha : Nat) (xa : Nat) (ta : Nat) (v4 : Int32) (v6 : Int32) (v7 : Int32) (v8 : Int32) (v9 : Int32) (v10 : Int32) (v11 : Int32) (v12 : Int32) (f : Nat → Int32) (ps : Nat) (g : Nat → Int32) (h : Nat → Int32) (tx : Nat → Int32) (td : Nat → Int32) (sb : Int32) (hA : ∀ q, sz ≤ q → A q) (hp4 : ps ≤ 4) (hI : InvA f) (hD : va_D A [(m0, .inr (4, [.ref sa, .ref pa, .ref ha, .int (nI (ps)), .int v4, .ref xa, .int v6, .int v7, .int v8, .int v9, .int v10, .int v11, .int v12, .ref ta])), (sa, .inl (dA 0, 718, .inl f)), (pa, .inl (dA 0, 2872, .inl g)), (ha, .inl (dA 0, 718, .inl h)), (xa, .inl (dA 0, 60, .inl tx)), (ta, .inl (dA 0, 3, .inl td))]) : Met l yX4_rebuild (ws_ yX4_rebuild cX4_rebuild 2 (some .int)) ({ frames := 2, cells := 0, slots := 0, locals := 60 }) (va_Pc [.ref m0, .int sb] (zP D dA ad A sz (fun H => va_P D vwCl [(m0, .inr (4, [.ref sa, .ref pa, .ref ha, .int (nI (ps)), .int v4, .ref xa, .int v6, .int v7, .int v8, .int v9, .int v10, .int v11, .int v12, .ref ta])), (sa, .inl (dA 0, 718, .inl f)), (pa, .inl (dA 0, 2872, .inl g)), (ha, .inl (dA 0, 718, .inl h)), (xa, .inl (dA 0, 60, .inl tx)), (ta, .inl (dA 0, 3, .inl td))] H))) (zQi (fun rz H => rz = (oRebuild f sb).2.1 ∧ va_P D vwCl [(m0, .inr (4, [.ref sa, .ref pa, .ref ha, .int (nI (gP (oRebuild f sb).1 v4 ps)), .int v4, .ref xa, .int v6, .int v7, .int v8, .int v9, .int v10, .int v11, .int v12, .ref ta])), (sa, .inl (dA 0, 718, .inl ((oRebuild f sb).2.2))), (pa, .inl (dA 0, 2872, .inl (gG (oRebuild f sb).1 v4 f g ps))), (ha, .inl (dA 0, 718, .inl h)), (xa, .inl (dA 0, 60, .inl tx)), (ta, .inl (dA 0, 3, .inl td))] H) A) (0) (0) A := by
  refine Met.ofW (cc := cX4_rebuild) (maxL := 2) (ret := (some .int)) (by decide) rfl ?_
  intro p e s m args below meth c s₁ B hml hv
  obtain ⟨rfl, hsz, hC, hP⟩ := hv
  have hx := B.exec
  have hb := B.bytes
  have hr := B.returns
  have hts := atoms_spec (ws := ws_ yX4_rebuild cX4_rebuild 2 (some .int)) B.pre
  have hts : ∀ w ∈ lw_all, w.before _ s = true := fun w h => hts w (List.mem_cons_of_mem _ h)
  have hown : s.vm.findClass RX4 = some m.cls := findClass_of_methodNamed B.named
  have hlocks := B.notSynchronized
  subst hsz
  have hK := hC.K
  have hS : va_S A s.heap s.heap [] := va_S.rf
  have hP : va_P D vwCl [(m0, .inr (4, [.ref sa, .ref pa, .ref ha, .int (nI (ps)), .int v4, .ref xa, .int v6, .int v7, .int v8, .int v9, .int v10, .int v11, .int v12, .ref ta])), (sa, .inl (dA 0, 718, .inl f)), (pa, .inl (dA 0, 2872, .inl g)), (ha, .inl (dA 0, 718, .inl h)), (xa, .inl (dA 0, 60, .inl tx)), (ta, .inl (dA 0, 3, .inl td))] s.heap := hP
  have hI0 := hI
  obtain ⟨hf0, hn, hsb, hrt, hrt2⟩ := hI
  have hl := lv_entry ([.ref m0, .int sb]) (n := 2) (Nat.le_of_ble_eq_true rfl)
  rw [lg_entry_eq]
  generalize (lg_sl ([.ref m0, .int sb]) ++ List.replicate (2 - (lg_sl ([.ref m0, .int sb])).length) Slot.unset).toArray = ls at hl ⊢
  have hl : lv_has ls 2 [(0, .ref m0), (1, .int sb)] := hl
  refine lv_iload_n hx hb dX4_rebuild_0 rfl (lv_at hl 1 rfl) ?_
  refine z_cSi (As := [.int sb]) (rest := []) ⟨hx, hb, hml, hown, hts⟩ (mX4_isStandby l D dA ad s.heap.size sb) (va_cwS 1 hts (lw_S q1417 q1418 q67 q1419) rfl rfl rfl (by decide +kernel) ⟨Nat.le_of_ble_eq_true rfl, Nat.le_of_ble_eq_true rfl⟩) hC hS (fun _ h => hA _ (Nat.le_trans hS.1 h)) trivial rfl rfl hl.1 (Nat.le_of_ble_eq_true rfl) dX4_rebuild_1 ⟨Nat.le_of_ble_eq_true rfl, Nat.le_of_ble_eq_true rfl⟩ (fun r_1 H locs hQ hF hS => ?_)
  have hP := va_P.ro hF hP
  obtain rfl : bI (nI (0) ≤ sb ∧ sb ≤ nI (1)) = r_1 := hQ.symm
  refine lv_if_ne (tgt := 10) hx hb dX4_rebuild_4 (by decide) (fun c_2 => ?_) (fun c_2 => ?_)
  · have c_2 := bI_1.1 c_2
    obtain ⟨b, h1, rfl⟩ := zr_of (N := 1) c_2 (by decide)
    have h1 : b < 2 := (by omega)
    obtain ⟨hrc, hap, har, hrl⟩ := hsb b h1
    refine lv_aload_n hx hb dX4_rebuild_10 rfl (lv_at hl 0 rfl) ?_
    refine z_cVv (As := []) (rest := []) ⟨hx, hb, hml, hown, hts⟩ (mX4_changes l D dA ad A H.size m0 sa pa ha xa ta v4 v6 v7 v8 v9 v10 v11 v12 f ps g h tx td (hA_up hA hS) (by omega) (hD.sub [0, 1, 2, 3, 4, 5] (by decide) rfl)) (cwV 0 hts (lw_V q1384 q1386 qs27 q67 q1387) rfl rfl rfl (by decide +kernel) ⟨Nat.le_of_ble_eq_true rfl, Nat.le_of_ble_eq_true rfl⟩) hC hS (fun _ h => h) (hP.sub (ws' := [(m0, .inr (4, [.ref sa, .ref pa, .ref ha, .int (nI (ps)), .int v4, .ref xa, .int v6, .int v7, .int v8, .int v9, .int v10, .int v11, .int v12, .ref ta])), (sa, .inl (dA 0, 718, .inl f)), (pa, .inl (dA 0, 2872, .inl g)), (ha, .inl (dA 0, 718, .inl h)), (xa, .inl (dA 0, 60, .inl tx)), (ta, .inl (dA 0, 3, .inl td))]) [0, 1, 2, 3, 4, 5] rfl) (va_recv hK hP (ci := 4) (q0 := 0) rfl rfl) rfl rfl hl.1 (Nat.le_of_ble_eq_true rfl) dX4_rebuild_11 ⟨Nat.le_of_ble_eq_true rfl, Nat.le_of_ble_eq_true rfl⟩ (fun H locs hQ hF hS => ?_)
    obtain ⟨hQ, hP⟩ := hQ
    have hD := va_D.same (ws' := [(m0, .inr (4, [.ref sa, .ref pa, .ref ha, .int (nI (chP v4 ps)), .int v4, .ref xa, .int v6, .int v7, .int v8, .int v9, .int v10, .int v11, .int v12, .ref ta])), (sa, .inl (dA 0, 718, .inl f)), (pa, .inl (dA 0, 2872, .inl (chG v4 f g ps))), (ha, .inl (dA 0, 718, .inl h)), (xa, .inl (dA 0, 60, .inl tx)), (ta, .inl (dA 0, 3, .inl td))]) (hD.sub (ws' := [(m0, .inr (4, [.ref sa, .ref pa, .ref ha, .int (nI (ps)), .int v4, .ref xa, .int v6, .int v7, .int v8, .int v9, .int v10, .int v11, .int v12, .ref ta])), (sa, .inl (dA 0, 718, .inl f)), (pa, .inl (dA 0, 2872, .inl g)), (ha, .inl (dA 0, 718, .inl h)), (xa, .inl (dA 0, 60, .inl tx)), (ta, .inl (dA 0, 3, .inl td))]) [0, 1, 2, 3, 4, 5] (by decide) rfl) rfl
    have hP : va_P D vwCl [(m0, .inr (4, [.ref sa, .ref pa, .ref ha, .int (nI (chP v4 ps)), .int v4, .ref xa, .int v6, .int v7, .int v8, .int v9, .int v10, .int v11, .int v12, .ref ta])), (sa, .inl (dA 0, 718, .inl f)), (pa, .inl (dA 0, 2872, .inl (chG v4 f g ps))), (ha, .inl (dA 0, 718, .inl h)), (xa, .inl (dA 0, 60, .inl tx)), (ta, .inl (dA 0, 3, .inl td))] H := hP
    have hD : va_D A [(m0, .inr (4, [.ref sa, .ref pa, .ref ha, .int (nI (chP v4 ps)), .int v4, .ref xa, .int v6, .int v7, .int v8, .int v9, .int v10, .int v11, .int v12, .ref ta])), (sa, .inl (dA 0, 718, .inl f)), (pa, .inl (dA 0, 2872, .inl (chG v4 f g ps))), (ha, .inl (dA 0, 718, .inl h)), (xa, .inl (dA 0, 60, .inl tx)), (ta, .inl (dA 0, 3, .inl td))] := hD
    refine lv_aload_n hx hb dX4_rebuild_14 rfl (lv_at hl 0 rfl) ?_
    refine lv_iload_n hx hb dX4_rebuild_15 rfl (lv_at hl 1 rfl) ?_
    refine lv_aload_n hx hb dX4_rebuild_16 rfl (lv_at hl 0 rfl) ?_
    refine va_get (D := D) (ci := 4) (v := .ref sa) (C := RX4) (T := TX4) (N := 14) hx hb hts in_X4 hown hK hP 0 rfl rfl 0 (by decide) (hts _ q1329) (fun _ h9 => h9) rfl dX4_rebuild_17 ?_
    refine lv_iconst (v := nI (0)) hx hb dX4_rebuild_20 (by decide) ?_
    refine va_iald hx hb hK hP 1 0 rfl rfl (vp_in_nI (by omega) (by omega)) dX4_rebuild_21 ?_
    refine lv_tope (y := f 0) (by rw [nI_clamp (by omega)]) ?_
    refine lv_tope (y := nI (rN f)) (hf0) ?_
    refine lv_iconst (v := nI (0)) hx hb dX4_rebuild_22 (by decide) ?_
    refine z_cVv (As := [.int (nI (b)), .int (nI (rN f)), .int (nI (0))]) (rest := []) ⟨hx, hb, hml, hown, hts⟩ (mX4_lays l D dA ad A H.size m0 sa pa ha xa ta v4 v6 v7 v8 v9 v10 v11 v12 f (chP v4 ps) (chG v4 f g ps) h tx td b (rN f) (nI (0)) (hA_up hA hS) (by omega) (hD.sub [0, 1, 2, 3, 4, 5] (by decide) rfl)) (cwV 3 hts (lw_V q1468 q1470 qs38 q67 q1471) rfl rfl rfl (by decide +kernel) ⟨Nat.le_of_ble_eq_true rfl, Nat.le_of_ble_eq_true rfl⟩) hC hS (fun _ h => h) (hP.sub (ws' := [(m0, .inr (4, [.ref sa, .ref pa, .ref ha, .int (nI (chP v4 ps)), .int v4, .ref xa, .int v6, .int v7, .int v8, .int v9, .int v10, .int v11, .int v12, .ref ta])), (sa, .inl (dA 0, 718, .inl f)), (pa, .inl (dA 0, 2872, .inl (chG v4 f g ps))), (ha, .inl (dA 0, 718, .inl h)), (xa, .inl (dA 0, 60, .inl tx)), (ta, .inl (dA 0, 3, .inl td))]) [0, 1, 2, 3, 4, 5] rfl) (va_recv hK hP (ci := 4) (q0 := 0) rfl rfl) rfl rfl hl.1 (Nat.le_of_ble_eq_true rfl) dX4_rebuild_23 ⟨Nat.le_of_ble_eq_true rfl, Nat.le_of_ble_eq_true rfl⟩ (fun H locs hQ hF hS => ?_)
    obtain ⟨hQ, hP⟩ := hQ
    have hD := va_D.same (ws' := [(m0, .inr (4, [.ref sa, .ref pa, .ref ha, .int (nI ((chP v4 ps))), .int v4, .ref xa, .int v6, .int v7, .int v8, .int v9, .int v10, .int v11, .int v12, .ref ta])), (sa, .inl (dA 0, 718, .inl (laysF f b (rN f) (nI (0))))), (pa, .inl (dA 0, 2872, .inl (chG v4 f g ps))), (ha, .inl (dA 0, 718, .inl h)), (xa, .inl (dA 0, 60, .inl tx)), (ta, .inl (dA 0, 3, .inl td))]) (hD.sub (ws' := [(m0, .inr (4, [.ref sa, .ref pa, .ref ha, .int (nI (chP v4 ps)), .int v4, .ref xa, .int v6, .int v7, .int v8, .int v9, .int v10, .int v11, .int v12, .ref ta])), (sa, .inl (dA 0, 718, .inl f)), (pa, .inl (dA 0, 2872, .inl (chG v4 f g ps))), (ha, .inl (dA 0, 718, .inl h)), (xa, .inl (dA 0, 60, .inl tx)), (ta, .inl (dA 0, 3, .inl td))]) [0, 1, 2, 3, 4, 5] (by decide) rfl) rfl
    have hP : va_P D vwCl [(m0, .inr (4, [.ref sa, .ref pa, .ref ha, .int (nI ((chP v4 ps))), .int v4, .ref xa, .int v6, .int v7, .int v8, .int v9, .int v10, .int v11, .int v12, .ref ta])), (sa, .inl (dA 0, 718, .inl (laysF f b (rN f) (nI (0))))), (pa, .inl (dA 0, 2872, .inl (chG v4 f g ps))), (ha, .inl (dA 0, 718, .inl h)), (xa, .inl (dA 0, 60, .inl tx)), (ta, .inl (dA 0, 3, .inl td))] H := hP
    have hD : va_D A [(m0, .inr (4, [.ref sa, .ref pa, .ref ha, .int (nI ((chP v4 ps))), .int v4, .ref xa, .int v6, .int v7, .int v8, .int v9, .int v10, .int v11, .int v12, .ref ta])), (sa, .inl (dA 0, 718, .inl (laysF f b (rN f) (nI (0))))), (pa, .inl (dA 0, 2872, .inl (chG v4 f g ps))), (ha, .inl (dA 0, 718, .inl h)), (xa, .inl (dA 0, 60, .inl tx)), (ta, .inl (dA 0, 3, .inl td))] := hD
    refine lv_aload_n hx hb dX4_rebuild_26 rfl (lv_at hl 0 rfl) ?_
    refine va_get (D := D) (ci := 4) (v := .ref sa) (C := RX4) (T := TX4) (N := 14) hx hb hts in_X4 hown hK hP 0 rfl rfl 0 (by decide) (hts _ q1329) (fun _ h9 => h9) rfl dX4_rebuild_27 ?_
    refine lv_iconst (v := nI (0)) hx hb dX4_rebuild_30 (by decide) ?_
    refine va_iald hx hb hK hP 1 0 rfl rfl (vp_in_nI (by omega) (by omega)) dX4_rebuild_31 ?_
    refine lv_tope (y := (laysF f b (rN f) (nI (0))) 0) (by rw [nI_clamp (by omega)]) ?_
    refine lv_tope (y := nI (rN f)) (by simp only [laysF, fillG, upd]; (repeat (first | rw [if_neg (by omega)] | rw [if_pos (by omega)])); exact hf0) ?_
    exact z_iret (v := nI (rN f)) hx hb hr hS (by rw [show oRebuild f (nI (b)) = (true, nI (rN f), laysF f b (rN f) (nI (0))) from by unfold oRebuild; simp only [nI_clamp (show b < 2 ^ 31 by omega)]; (repeat' split) <;> first | rfl | contradiction | (exfalso; simp_all; done)]; exact ⟨rfl, hP⟩) (by omega) (by omega) dX4_rebuild_32
  · have c_2 := bI_0.1 c_2
    refine lv_ldc (v := (-1000001)) hx hb hown (hts _ q1382) dX4_rebuild_7 ?_
    exact z_iret (v := (-1000001)) hx hb hr hS (by rw [show oRebuild f sb = (false, (-1000001), f) from by unfold oRebuild; (repeat' split) <;> first | rfl | contradiction | (exfalso; simp_all; done)]; exact ⟨rfl, hP⟩) (by omega) (by omega) dX4_rebuild_9

set_option maxHeartbeats 4000000 in
set_option maxRecDepth 100000 in
theorem mX4_set (l : Launch) (D : va_G) (dA : Nat → ClassId) (ad : Nat → Nat) (A : Nat → Prop) (sz : Nat) (m0 : Nat) (sa : Nat) (pa : Nat) (ha : Nat) (xa : Nat) (ta : Nat) (v4 : Int32) (v6 : Int32) (v7 : Int32) (v8 : Int32) (v9 : Int32) (v10 : Int32) (v11 : Int32) (v12 : Int32) (f : Nat → Int32) (ps : Nat) (g : Nat → Int32) (h : Nat → Int32) (tx : Nat → Int32) (td : Nat → Int32) (w0 : Int32) (v : Int32) (hA : ∀ q, sz ≤ q → A q) (hp4 : ps ≤ 4) (hD : va_D A [(m0, .inr (4, [.ref sa, .ref pa, .ref ha, .int (nI (ps)), .int v4, .ref xa, .int v6, .int v7, .int v8, .int v9, .int v10, .int v11, .int v12, .ref ta])), (sa, .inl (dA 0, 718, .inl f)), (pa, .inl (dA 0, 2872, .inl g)), (ha, .inl (dA 0, 718, .inl h)), (xa, .inl (dA 0, 60, .inl tx)), (ta, .inl (dA 0, 3, .inl td))]) : Met l yX4_set (ws_ yX4_set cX4_set 4 (some .int)) ({ frames := 2, cells := 0, slots := 0, locals := 60 }) (va_Pc [.ref m0, .int w0, .int v] (zP D dA ad A sz (fun H => va_P D vwCl [(m0, .inr (4, [.ref sa, .ref pa, .ref ha, .int (nI (ps)), .int v4, .ref xa, .int v6, .int v7, .int v8, .int v9, .int v10, .int v11, .int v12, .ref ta])), (sa, .inl (dA 0, 718, .inl f)), (pa, .inl (dA 0, 2872, .inl g)), (ha, .inl (dA 0, 718, .inl h)), (xa, .inl (dA 0, 60, .inl tx)), (ta, .inl (dA 0, 3, .inl td))] H))) (zQi (fun rz H => rz = (oSet f w0 v).2.1 ∧ va_P D vwCl [(m0, .inr (4, [.ref sa, .ref pa, .ref ha, .int (nI (gP (oSet f w0 v).1 v4 ps)), .int v4, .ref xa, .int v6, .int v7, .int v8, .int v9, .int v10, .int v11, .int v12, .ref ta])), (sa, .inl (dA 0, 718, .inl ((oSet f w0 v).2.2))), (pa, .inl (dA 0, 2872, .inl (gG (oSet f w0 v).1 v4 f g ps))), (ha, .inl (dA 0, 718, .inl h)), (xa, .inl (dA 0, 60, .inl tx)), (ta, .inl (dA 0, 3, .inl td))] H) A) (0) (0) A := by
  refine Met.ofW (cc := cX4_set) (maxL := 4) (ret := (some .int)) (by decide) rfl ?_
  intro p e s m args below meth c s₁ B hml hv
  obtain ⟨rfl, hsz, hC, hP⟩ := hv
  have hx := B.exec
  have hb := B.bytes
  have hr := B.returns
  have hts := atoms_spec (ws := ws_ yX4_set cX4_set 4 (some .int)) B.pre
  have hts : ∀ w ∈ lw_all, w.before _ s = true := fun w h => hts w (List.mem_cons_of_mem _ h)
  have hown : s.vm.findClass RX4 = some m.cls := findClass_of_methodNamed B.named
  have hlocks := B.notSynchronized
  subst hsz
  have hK := hC.K
  have hS : va_S A s.heap s.heap [] := va_S.rf
  have hP : va_P D vwCl [(m0, .inr (4, [.ref sa, .ref pa, .ref ha, .int (nI (ps)), .int v4, .ref xa, .int v6, .int v7, .int v8, .int v9, .int v10, .int v11, .int v12, .ref ta])), (sa, .inl (dA 0, 718, .inl f)), (pa, .inl (dA 0, 2872, .inl g)), (ha, .inl (dA 0, 718, .inl h)), (xa, .inl (dA 0, 60, .inl tx)), (ta, .inl (dA 0, 3, .inl td))] s.heap := hP
  have hl := lv_entry ([.ref m0, .int w0, .int v]) (n := 4) (Nat.le_of_ble_eq_true rfl)
  rw [lg_entry_eq]
  generalize (lg_sl ([.ref m0, .int w0, .int v]) ++ List.replicate (4 - (lg_sl ([.ref m0, .int w0, .int v])).length) Slot.unset).toArray = ls at hl ⊢
  have hl : lv_has ls 4 [(0, .ref m0), (1, .int w0), (2, .int v)] := hl
  refine lv_iload_n hx hb dX4_set_0 rfl (lv_at hl 1 rfl) ?_
  refine lv_iconst (v := nI (0)) hx hb dX4_set_1 (by decide) ?_
  refine lv_iconst (v := nI (1)) hx hb dX4_set_2 (by decide) ?_
  refine z_cSi (As := [.int w0, .int (nI (0)), .int (nI (1))]) (rest := []) ⟨hx, hb, hml, hown, hts⟩ (mX4_in l D dA ad s.heap.size w0 (nI (0)) (nI (1))) (va_cwS 3 hts (lw_S q1379 q1380 q67 q1381) rfl rfl rfl (by decide +kernel) ⟨Nat.le_of_ble_eq_true rfl, Nat.le_of_ble_eq_true rfl⟩) hC hS (fun _ h => hA _ (Nat.le_trans hS.1 h)) trivial rfl rfl hl.1 (Nat.le_of_ble_eq_true rfl) dX4_set_3 ⟨Nat.le_of_ble_eq_true rfl, Nat.le_of_ble_eq_true rfl⟩ (fun r_1 H locs hQ hF hS => ?_)
  have hP := va_P.ro hF hP
  obtain rfl : bI ((nI (0)) ≤ w0 ∧ w0 ≤ (nI (1))) = r_1 := hQ.symm
  refine lv_if_eq (tgt := 21) hx hb dX4_set_6 (by decide) (fun c_2 => ?_) (fun c_2 => ?_)
  · have c_2 := bI_0.1 c_2
    refine lv_ldc (v := (-1000001)) hx hb hown (hts _ q1382) dX4_set_21 ?_
    exact z_iret (v := (-1000001)) hx hb hr hS (by rw [show oSet f w0 v = (false, (-1000001), f) from by unfold oSet; (repeat' split) <;> first | rfl | contradiction | (exfalso; simp_all; done)]; exact ⟨rfl, hP⟩) (by omega) (by omega) dX4_set_23
  · have c_2 := bI_1.1 c_2
    obtain ⟨w, hw, rfl⟩ := zr_of (N := 1) c_2 (by decide)
    refine lv_iload_n hx hb dX4_set_9 rfl (lv_at hl 2 rfl) ?_
    refine lv_iconst (v := nI (1)) hx hb dX4_set_10 (by decide) ?_
    refine lv_iload_n hx hb dX4_set_11 rfl (lv_at hl 1 rfl) ?_
    refine lv_isub hx hb dX4_set_12 ?_
    refine lv_bipush (v := nI (20)) hx hb dX4_set_13 (by decide) ?_
    refine z_cSi (As := [.int v, .int ((nI (1)) - (nI (w))), .int (nI (20))]) (rest := []) ⟨hx, hb, hml, hown, hts⟩ (mX4_in l D dA ad H.size v ((nI (1)) - (nI (w))) (nI (20))) (va_cwS 3 hts (lw_S q1379 q1380 q67 q1381) rfl rfl rfl (by decide +kernel) ⟨Nat.le_of_ble_eq_true rfl, Nat.le_of_ble_eq_true rfl⟩) hC hS (fun _ h => hA _ (Nat.le_trans hS.1 h)) trivial rfl rfl hl.1 (Nat.le_of_ble_eq_true rfl) dX4_set_15 ⟨Nat.le_of_ble_eq_true rfl, Nat.le_of_ble_eq_true rfl⟩ (fun r_3 H locs hQ hF hS => ?_)
    have hP := va_P.ro hF hP
    obtain rfl : bI (((nI (1)) - (nI (w))) ≤ v ∧ v ≤ (nI (20))) = r_3 := hQ.symm
    refine lv_if_ne (tgt := 24) hx hb dX4_set_18 (by decide) (fun c_4 => ?_) (fun c_4 => ?_)
    · have c_4 := bI_1.1 c_4
      refine lv_aload_n hx hb dX4_set_24 rfl (lv_at hl 0 rfl) ?_
      refine z_cVv (As := []) (rest := []) ⟨hx, hb, hml, hown, hts⟩ (mX4_changes l D dA ad A H.size m0 sa pa ha xa ta v4 v6 v7 v8 v9 v10 v11 v12 f ps g h tx td (hA_up hA hS) (by omega) (hD.sub [0, 1, 2, 3, 4, 5] (by decide) rfl)) (cwV 0 hts (lw_V q1384 q1386 qs27 q67 q1387) rfl rfl rfl (by decide +kernel) ⟨Nat.le_of_ble_eq_true rfl, Nat.le_of_ble_eq_true rfl⟩) hC hS (fun _ h => h) (hP.sub (ws' := [(m0, .inr (4, [.ref sa, .ref pa, .ref ha, .int (nI (ps)), .int v4, .ref xa, .int v6, .int v7, .int v8, .int v9, .int v10, .int v11, .int v12, .ref ta])), (sa, .inl (dA 0, 718, .inl f)), (pa, .inl (dA 0, 2872, .inl g)), (ha, .inl (dA 0, 718, .inl h)), (xa, .inl (dA 0, 60, .inl tx)), (ta, .inl (dA 0, 3, .inl td))]) [0, 1, 2, 3, 4, 5] rfl) (va_recv hK hP (ci := 4) (q0 := 0) rfl rfl) rfl rfl hl.1 (Nat.le_of_ble_eq_true rfl) dX4_set_25 ⟨Nat.le_of_ble_eq_true rfl, Nat.le_of_ble_eq_true rfl⟩ (fun H locs hQ hF hS => ?_)
      obtain ⟨hQ, hP⟩ := hQ
      have hD := va_D.same (ws' := [(m0, .inr (4, [.ref sa, .ref pa, .ref ha, .int (nI (chP v4 ps)), .int v4, .ref xa, .int v6, .int v7, .int v8, .int v9, .int v10, .int v11, .int v12, .ref ta])), (sa, .inl (dA 0, 718, .inl f)), (pa, .inl (dA 0, 2872, .inl (chG v4 f g ps))), (ha, .inl (dA 0, 718, .inl h)), (xa, .inl (dA 0, 60, .inl tx)), (ta, .inl (dA 0, 3, .inl td))]) (hD.sub (ws' := [(m0, .inr (4, [.ref sa, .ref pa, .ref ha, .int (nI (ps)), .int v4, .ref xa, .int v6, .int v7, .int v8, .int v9, .int v10, .int v11, .int v12, .ref ta])), (sa, .inl (dA 0, 718, .inl f)), (pa, .inl (dA 0, 2872, .inl g)), (ha, .inl (dA 0, 718, .inl h)), (xa, .inl (dA 0, 60, .inl tx)), (ta, .inl (dA 0, 3, .inl td))]) [0, 1, 2, 3, 4, 5] (by decide) rfl) rfl
      have hP : va_P D vwCl [(m0, .inr (4, [.ref sa, .ref pa, .ref ha, .int (nI (chP v4 ps)), .int v4, .ref xa, .int v6, .int v7, .int v8, .int v9, .int v10, .int v11, .int v12, .ref ta])), (sa, .inl (dA 0, 718, .inl f)), (pa, .inl (dA 0, 2872, .inl (chG v4 f g ps))), (ha, .inl (dA 0, 718, .inl h)), (xa, .inl (dA 0, 60, .inl tx)), (ta, .inl (dA 0, 3, .inl td))] H := hP
      have hD : va_D A [(m0, .inr (4, [.ref sa, .ref pa, .ref ha, .int (nI (chP v4 ps)), .int v4, .ref xa, .int v6, .int v7, .int v8, .int v9, .int v10, .int v11, .int v12, .ref ta])), (sa, .inl (dA 0, 718, .inl f)), (pa, .inl (dA 0, 2872, .inl (chG v4 f g ps))), (ha, .inl (dA 0, 718, .inl h)), (xa, .inl (dA 0, 60, .inl tx)), (ta, .inl (dA 0, 3, .inl td))] := hD
      refine lv_aload_n hx hb dX4_set_28 rfl (lv_at hl 0 rfl) ?_
      refine va_get (D := D) (ci := 4) (v := .ref sa) (C := RX4) (T := TX4) (N := 14) hx hb hts in_X4 hown hK hP 0 rfl rfl 0 (by decide) (hts _ q1329) (fun _ h9 => h9) rfl dX4_set_29 ?_
      refine lv_bipush (v := nI (7)) hx hb dX4_set_32 (by decide) ?_
      refine lv_iload_n hx hb dX4_set_34 rfl (lv_at hl 1 rfl) ?_
      refine lv_iadd hx hb dX4_set_35 ?_
      refine lv_tope (y := nI (7 + w)) (nI_add _ _) ?_
      refine va_iald hx hb hK hP 1 0 rfl rfl (vp_in_nI (by omega) (by omega)) dX4_set_36 ?_
      refine lv_tope (y := f (7 + w)) (by rw [nI_clamp (by omega)]) ?_
      refine lv_istore_n (lv' := [(3, .int (f (7 + w))), (0, .ref m0), (1, .int (nI (w))), (2, .int v)]) hx hb dX4_set_37 rfl hl (by decide) rfl (fun ls hl => ?_)
      refine lv_aload_n hx hb dX4_set_38 rfl (lv_at hl 1 rfl) ?_
      refine va_get (D := D) (ci := 4) (v := .ref sa) (C := RX4) (T := TX4) (N := 14) hx hb hts in_X4 hown hK hP 0 rfl rfl 0 (by decide) (hts _ q1329) (fun _ h9 => h9) rfl dX4_set_39 ?_
      refine lv_bipush (v := nI (7)) hx hb dX4_set_42 (by decide) ?_
      refine lv_iload_n hx hb dX4_set_44 rfl (lv_at hl 2 rfl) ?_
      refine lv_iadd hx hb dX4_set_45 ?_
      refine lv_tope (y := nI (7 + w)) (nI_add _ _) ?_
      refine lv_iload_n hx hb dX4_set_46 rfl (lv_at hl 3 rfl) ?_
      refine va_iast hx hb hK hP hD hS 1 0 rfl rfl (vp_in_nI (by omega) (by omega)) dX4_set_47 (fun H locs hP hD hS => ?_)
      rw [nI_clamp (by omega)] at hP hD
      have hP : va_P D vwCl [(m0, .inr (4, [.ref sa, .ref pa, .ref ha, .int (nI (chP v4 ps)), .int v4, .ref xa, .int v6, .int v7, .int v8, .int v9, .int v10, .int v11, .int v12, .ref ta])), (sa, .inl (dA 0, 718, .inl (upd f (7 + w) v))), (pa, .inl (dA 0, 2872, .inl (chG v4 f g ps))), (ha, .inl (dA 0, 718, .inl h)), (xa, .inl (dA 0, 60, .inl tx)), (ta, .inl (dA 0, 3, .inl td))] H := hP
      have hD : va_D A [(m0, .inr (4, [.ref sa, .ref pa, .ref ha, .int (nI (chP v4 ps)), .int v4, .ref xa, .int v6, .int v7, .int v8, .int v9, .int v10, .int v11, .int v12, .ref ta])), (sa, .inl (dA 0, 718, .inl (upd f (7 + w) v))), (pa, .inl (dA 0, 2872, .inl (chG v4 f g ps))), (ha, .inl (dA 0, 718, .inl h)), (xa, .inl (dA 0, 60, .inl tx)), (ta, .inl (dA 0, 3, .inl td))] := hD
      refine lv_iload_n hx hb dX4_set_48 rfl (lv_at hl 0 rfl) ?_
      exact z_iret (v := f (7 + w)) hx hb hr hS (by rw [show oSet f (nI (w)) v = (true, f (7 + w), upd f (7 + w) v) from by unfold oSet; simp only [nI_clamp (show w < 2 ^ 31 by omega)]; (repeat' split) <;> first | rfl | contradiction | (exfalso; simp_all; done)]; exact ⟨rfl, hP⟩) (by omega) (by omega) dX4_set_49
    · have c_4 := bI_0.1 c_4
      refine lv_ldc (v := (-1000001)) hx hb hown (hts _ q1382) dX4_set_21 ?_
      exact z_iret (v := (-1000001)) hx hb hr hS (by rw [show oSet f (nI (w)) v = (false, (-1000001), f) from by unfold oSet; simp only [nI_clamp (show w < 2 ^ 31 by omega)]; (repeat' split) <;> first | rfl | contradiction | (exfalso; simp_all; done)]; exact ⟨rfl, hP⟩) (by omega) (by omega) dX4_set_23

set_option maxHeartbeats 4000000 in
set_option maxRecDepth 100000 in
theorem mX4_tick (l : Launch) (D : va_G) (dA : Nat → ClassId) (ad : Nat → Nat) (A : Nat → Prop) (sz : Nat) (m0 : Nat) (sa : Nat) (pa : Nat) (ha : Nat) (xa : Nat) (ta : Nat) (v4 : Int32) (v6 : Int32) (v7 : Int32) (v8 : Int32) (v9 : Int32) (v10 : Int32) (v11 : Int32) (v12 : Int32) (f : Nat → Int32) (ps : Nat) (g : Nat → Int32) (h : Nat → Int32) (tx : Nat → Int32) (td : Nat → Int32) (t0 : Int32) (hA : ∀ q, sz ≤ q → A q) (hp4 : ps ≤ 4) (hI : InvA f) (hD : va_D A [(m0, .inr (4, [.ref sa, .ref pa, .ref ha, .int (nI (ps)), .int v4, .ref xa, .int v6, .int v7, .int v8, .int v9, .int v10, .int v11, .int v12, .ref ta])), (sa, .inl (dA 0, 718, .inl f)), (pa, .inl (dA 0, 2872, .inl g)), (ha, .inl (dA 0, 718, .inl h)), (xa, .inl (dA 0, 60, .inl tx)), (ta, .inl (dA 0, 3, .inl td))]) : Met l yX4_tick (ws_ yX4_tick cX4_tick 6 (some .int)) ({ frames := 2, cells := 0, slots := 0, locals := 60 }) (va_Pc [.ref m0, .int t0] (zP D dA ad A sz (fun H => va_P D vwCl [(m0, .inr (4, [.ref sa, .ref pa, .ref ha, .int (nI (ps)), .int v4, .ref xa, .int v6, .int v7, .int v8, .int v9, .int v10, .int v11, .int v12, .ref ta])), (sa, .inl (dA 0, 718, .inl f)), (pa, .inl (dA 0, 2872, .inl g)), (ha, .inl (dA 0, 718, .inl h)), (xa, .inl (dA 0, 60, .inl tx)), (ta, .inl (dA 0, 3, .inl td))] H))) (zQi (fun rz H => rz = (oTick f t0).2.1 ∧ va_P D vwCl [(m0, .inr (4, [.ref sa, .ref pa, .ref ha, .int (nI (gP (oTick f t0).1 v4 ps)), .int v4, .ref xa, .int v6, .int v7, .int v8, .int v9, .int v10, .int v11, .int v12, .ref ta])), (sa, .inl (dA 0, 718, .inl ((oTick f t0).2.2))), (pa, .inl (dA 0, 2872, .inl (gG (oTick f t0).1 v4 f g ps))), (ha, .inl (dA 0, 718, .inl h)), (xa, .inl (dA 0, 60, .inl tx)), (ta, .inl (dA 0, 3, .inl td))] H) A) (0) (0) A := by
  refine Met.ofW (cc := cX4_tick) (maxL := 6) (ret := (some .int)) (by decide) rfl ?_
  intro p e s m args below meth c s₁ B hml hv
  obtain ⟨rfl, hsz, hC, hP⟩ := hv
  have hx := B.exec
  have hb := B.bytes
  have hr := B.returns
  have hts := atoms_spec (ws := ws_ yX4_tick cX4_tick 6 (some .int)) B.pre
  have hts : ∀ w ∈ lw_all, w.before _ s = true := fun w h => hts w (List.mem_cons_of_mem _ h)
  have hown : s.vm.findClass RX4 = some m.cls := findClass_of_methodNamed B.named
  have hlocks := B.notSynchronized
  subst hsz
  have hK := hC.K
  have hS : va_S A s.heap s.heap [] := va_S.rf
  have hP : va_P D vwCl [(m0, .inr (4, [.ref sa, .ref pa, .ref ha, .int (nI (ps)), .int v4, .ref xa, .int v6, .int v7, .int v8, .int v9, .int v10, .int v11, .int v12, .ref ta])), (sa, .inl (dA 0, 718, .inl f)), (pa, .inl (dA 0, 2872, .inl g)), (ha, .inl (dA 0, 718, .inl h)), (xa, .inl (dA 0, 60, .inl tx)), (ta, .inl (dA 0, 3, .inl td))] s.heap := hP
  have hI0 := hI
  have hl := lv_entry ([.ref m0, .int t0]) (n := 6) (Nat.le_of_ble_eq_true rfl)
  rw [lg_entry_eq]
  generalize (lg_sl ([.ref m0, .int t0]) ++ List.replicate (6 - (lg_sl ([.ref m0, .int t0])).length) Slot.unset).toArray = ls at hl ⊢
  have hl : lv_has ls 6 [(0, .ref m0), (1, .int t0)] := hl
  refine lv_iload_n hx hb dX4_tick_0 rfl (lv_at hl 1 rfl) ?_
  refine lv_iconst (v := nI (1)) hx hb dX4_tick_1 (by decide) ?_
  refine lv_bipush (v := nI (99)) hx hb dX4_tick_2 (by decide) ?_
  refine z_cSi (As := [.int t0, .int (nI (1)), .int (nI (99))]) (rest := []) ⟨hx, hb, hml, hown, hts⟩ (mX4_in l D dA ad s.heap.size t0 (nI (1)) (nI (99))) (va_cwS 3 hts (lw_S q1379 q1380 q67 q1381) rfl rfl rfl (by decide +kernel) ⟨Nat.le_of_ble_eq_true rfl, Nat.le_of_ble_eq_true rfl⟩) hC hS (fun _ h => hA _ (Nat.le_trans hS.1 h)) trivial rfl rfl hl.1 (Nat.le_of_ble_eq_true rfl) dX4_tick_4 ⟨Nat.le_of_ble_eq_true rfl, Nat.le_of_ble_eq_true rfl⟩ (fun r_1 H locs hQ hF hS => ?_)
  have hP := va_P.ro hF hP
  obtain rfl : bI ((nI (1)) ≤ t0 ∧ t0 ≤ (nI (99))) = r_1 := hQ.symm
  refine lv_if_ne (tgt := 13) hx hb dX4_tick_7 (by decide) (fun c_2 => ?_) (fun c_2 => ?_)
  · have c_2 := bI_1.1 c_2
    obtain ⟨t, ht, rfl⟩ := zr_of (N := 99) ⟨Int32.le_trans (by decide) c_2.1, c_2.2⟩ (by decide)
    have ht0 := (nI_leI (by omega) (by omega)).1 c_2.1
    refine lv_aload_n hx hb dX4_tick_13 rfl (lv_at hl 0 rfl) ?_
    refine z_cVv (As := []) (rest := []) ⟨hx, hb, hml, hown, hts⟩ (mX4_changes l D dA ad A H.size m0 sa pa ha xa ta v4 v6 v7 v8 v9 v10 v11 v12 f ps g h tx td (hA_up hA hS) (by omega) (hD.sub [0, 1, 2, 3, 4, 5] (by decide) rfl)) (cwV 0 hts (lw_V q1384 q1386 qs27 q67 q1387) rfl rfl rfl (by decide +kernel) ⟨Nat.le_of_ble_eq_true rfl, Nat.le_of_ble_eq_true rfl⟩) hC hS (fun _ h => h) (hP.sub (ws' := [(m0, .inr (4, [.ref sa, .ref pa, .ref ha, .int (nI (ps)), .int v4, .ref xa, .int v6, .int v7, .int v8, .int v9, .int v10, .int v11, .int v12, .ref ta])), (sa, .inl (dA 0, 718, .inl f)), (pa, .inl (dA 0, 2872, .inl g)), (ha, .inl (dA 0, 718, .inl h)), (xa, .inl (dA 0, 60, .inl tx)), (ta, .inl (dA 0, 3, .inl td))]) [0, 1, 2, 3, 4, 5] rfl) (va_recv hK hP (ci := 4) (q0 := 0) rfl rfl) rfl rfl hl.1 (Nat.le_of_ble_eq_true rfl) dX4_tick_14 ⟨Nat.le_of_ble_eq_true rfl, Nat.le_of_ble_eq_true rfl⟩ (fun H locs hQ hF hS => ?_)
    obtain ⟨hQ, hP⟩ := hQ
    have hD := va_D.same (ws' := [(m0, .inr (4, [.ref sa, .ref pa, .ref ha, .int (nI (chP v4 ps)), .int v4, .ref xa, .int v6, .int v7, .int v8, .int v9, .int v10, .int v11, .int v12, .ref ta])), (sa, .inl (dA 0, 718, .inl f)), (pa, .inl (dA 0, 2872, .inl (chG v4 f g ps))), (ha, .inl (dA 0, 718, .inl h)), (xa, .inl (dA 0, 60, .inl tx)), (ta, .inl (dA 0, 3, .inl td))]) (hD.sub (ws' := [(m0, .inr (4, [.ref sa, .ref pa, .ref ha, .int (nI (ps)), .int v4, .ref xa, .int v6, .int v7, .int v8, .int v9, .int v10, .int v11, .int v12, .ref ta])), (sa, .inl (dA 0, 718, .inl f)), (pa, .inl (dA 0, 2872, .inl g)), (ha, .inl (dA 0, 718, .inl h)), (xa, .inl (dA 0, 60, .inl tx)), (ta, .inl (dA 0, 3, .inl td))]) [0, 1, 2, 3, 4, 5] (by decide) rfl) rfl
    have hP : va_P D vwCl [(m0, .inr (4, [.ref sa, .ref pa, .ref ha, .int (nI (chP v4 ps)), .int v4, .ref xa, .int v6, .int v7, .int v8, .int v9, .int v10, .int v11, .int v12, .ref ta])), (sa, .inl (dA 0, 718, .inl f)), (pa, .inl (dA 0, 2872, .inl (chG v4 f g ps))), (ha, .inl (dA 0, 718, .inl h)), (xa, .inl (dA 0, 60, .inl tx)), (ta, .inl (dA 0, 3, .inl td))] H := hP
    have hD : va_D A [(m0, .inr (4, [.ref sa, .ref pa, .ref ha, .int (nI (chP v4 ps)), .int v4, .ref xa, .int v6, .int v7, .int v8, .int v9, .int v10, .int v11, .int v12, .ref ta])), (sa, .inl (dA 0, 718, .inl f)), (pa, .inl (dA 0, 2872, .inl (chG v4 f g ps))), (ha, .inl (dA 0, 718, .inl h)), (xa, .inl (dA 0, 60, .inl tx)), (ta, .inl (dA 0, 3, .inl td))] := hD
    refine lv_iconst (v := nI (0)) hx hb dX4_tick_17 (by decide) ?_
    refine lv_istore_n (lv' := [(2, .int (nI (0))), (0, .ref m0), (1, .int (nI (t)))]) hx hb dX4_tick_18 rfl hl (by decide) rfl (fun ls hl => ?_)
    refine lv_iconst (v := nI (0)) hx hb dX4_tick_19 (by decide) ?_
    refine lv_istore_n (lv' := [(3, .int (nI (0))), (2, .int (nI (0))), (0, .ref m0), (1, .int (nI (t)))]) hx hb dX4_tick_20 rfl hl (by decide) rfl (fun ls hl => ?_)
    refine z_loop (σ := Nat) (fun i => t - i) (fun i H locs ls => va_P D vwCl [(m0, .inr (4, [.ref sa, .ref pa, .ref ha, .int (nI (chP v4 ps)), .int v4, .ref xa, .int v6, .int v7, .int v8, .int v9, .int v10, .int v11, .int v12, .ref ta])), (sa, .inl (dA 0, 718, .inl (tickK f i))), (pa, .inl (dA 0, 2872, .inl (chG v4 f g ps))), (ha, .inl (dA 0, 718, .inl h)), (xa, .inl (dA 0, 60, .inl tx)), (ta, .inl (dA 0, 3, .inl td))] H ∧ va_D A [(m0, .inr (4, [.ref sa, .ref pa, .ref ha, .int (nI (chP v4 ps)), .int v4, .ref xa, .int v6, .int v7, .int v8, .int v9, .int v10, .int v11, .int v12, .ref ta])), (sa, .inl (dA 0, 718, .inl (tickK f i))), (pa, .inl (dA 0, 2872, .inl (chG v4 f g ps))), (ha, .inl (dA 0, 718, .inl h)), (xa, .inl (dA 0, 60, .inl tx)), (ta, .inl (dA 0, 3, .inl td))] ∧ va_S A s.heap H locs ∧ lv_has ls 6 [(0, .ref m0), (1, .int (nI (t))), (2, .int (nI (tickS f i))), (3, .int (nI (i)))] ∧ i ≤ t) (0) ⟨hP, hD.same rfl, hS, (lv_sub (l' := [(0, .ref m0), (1, .int (nI (t))), (2, .int (nI (tickS f 0))), (3, .int (nI (0)))]) hl [2, 3, 1, 0] rfl), by omega⟩ ?_
    intro i H locs ls ⟨hP, hD, hS, hl, hi⟩ ih_21
    refine lv_iload_n hx hb dX4_tick_21 rfl (lv_at hl 3 rfl) ?_
    refine lv_iload_n hx hb dX4_tick_22 rfl (lv_at hl 1 rfl) ?_
    refine lv_icmp_ge (tgt := 109) hx hb dX4_tick_23 (by decide) (fun c_4 => ?_) (fun c_4 => ?_)
    · have c_4 := (nI_leI (by omega) (by omega)).1 c_4
      rw [show i = t by omega] at hP hD hl
      refine lv_aload_n hx hb dX4_tick_109 rfl (lv_at hl 0 rfl) ?_
      refine va_get (D := D) (ci := 4) (v := .ref sa) (C := RX4) (T := TX4) (N := 14) hx hb hts in_X4 hown hK hP 0 rfl rfl 0 (by decide) (hts _ q1329) (fun _ h9 => h9) rfl dX4_tick_110 ?_
      refine lv_bipush (v := nI (6)) hx hb dX4_tick_113 (by decide) ?_
      refine lv_dup2_11 hx hb dX4_tick_115 rfl rfl ?_
      refine va_iald hx hb hK hP 1 0 rfl rfl (vp_in_nI (by omega) (by omega)) dX4_tick_116 ?_
      refine lv_tope (y := (tickK f t) 6) (by rw [nI_clamp (by omega)]) ?_
      refine lv_iload_n hx hb dX4_tick_117 rfl (lv_at hl 2 rfl) ?_
      refine lv_iadd hx hb dX4_tick_118 ?_
      refine va_iast hx hb hK hP hD hS 1 0 rfl rfl (vp_in_nI (by omega) (by omega)) dX4_tick_119 (fun H locs hP hD hS => ?_)
      rw [nI_clamp (by omega)] at hP hD
      have hP : va_P D vwCl [(m0, .inr (4, [.ref sa, .ref pa, .ref ha, .int (nI (chP v4 ps)), .int v4, .ref xa, .int v6, .int v7, .int v8, .int v9, .int v10, .int v11, .int v12, .ref ta])), (sa, .inl (dA 0, 718, .inl (upd (tickK f t) 6 (((tickK f t) 6) + (nI (tickS f t)))))), (pa, .inl (dA 0, 2872, .inl (chG v4 f g ps))), (ha, .inl (dA 0, 718, .inl h)), (xa, .inl (dA 0, 60, .inl tx)), (ta, .inl (dA 0, 3, .inl td))] H := hP
      have hD : va_D A [(m0, .inr (4, [.ref sa, .ref pa, .ref ha, .int (nI (chP v4 ps)), .int v4, .ref xa, .int v6, .int v7, .int v8, .int v9, .int v10, .int v11, .int v12, .ref ta])), (sa, .inl (dA 0, 718, .inl (upd (tickK f t) 6 (((tickK f t) 6) + (nI (tickS f t)))))), (pa, .inl (dA 0, 2872, .inl (chG v4 f g ps))), (ha, .inl (dA 0, 718, .inl h)), (xa, .inl (dA 0, 60, .inl tx)), (ta, .inl (dA 0, 3, .inl td))] := hD
      refine lv_iload_n hx hb dX4_tick_120 rfl (lv_at hl 2 rfl) ?_
      exact z_iret (v := nI (tickS f t)) hx hb hr hS (by rw [show oTick f (nI (t)) = (true, nI (tickS f t), upd (tickK f t) 6 (((tickK f t) 6) + (nI (tickS f t)))) from by unfold oTick; simp only [nI_clamp (show t < 2 ^ 31 by omega)]; (repeat' split) <;> first | rfl | contradiction | (exfalso; simp_all; done)]; exact ⟨rfl, hP⟩) (by omega) (by omega) dX4_tick_121
    · have c_4 := mt (nI_leI (by omega) (by omega)).2 c_4
      refine lv_aload_n hx hb dX4_tick_26 rfl (lv_at hl 0 rfl) ?_
      refine va_get (D := D) (ci := 4) (v := .ref sa) (C := RX4) (T := TX4) (N := 14) hx hb hts in_X4 hown hK hP 0 rfl rfl 0 (by decide) (hts _ q1329) (fun _ h9 => h9) rfl dX4_tick_27 ?_
      refine lv_iconst (v := nI (1)) hx hb dX4_tick_30 (by decide) ?_
      refine lv_dup2_11 hx hb dX4_tick_31 rfl rfl ?_
      refine va_iald hx hb hK hP 1 0 rfl rfl (vp_in_nI (by omega) (by omega)) dX4_tick_32 ?_
      refine lv_tope (y := (tickK f i) 1) (by rw [nI_clamp (by omega)]) ?_
      refine lv_iconst (v := nI (1)) hx hb dX4_tick_33 (by decide) ?_
      refine lv_iadd hx hb dX4_tick_34 ?_
      refine va_iast hx hb hK hP hD hS 1 0 rfl rfl (vp_in_nI (by omega) (by omega)) dX4_tick_35 (fun H locs hP hD hS => ?_)
      rw [nI_clamp (by omega)] at hP hD
      have hP : va_P D vwCl [(m0, .inr (4, [.ref sa, .ref pa, .ref ha, .int (nI (chP v4 ps)), .int v4, .ref xa, .int v6, .int v7, .int v8, .int v9, .int v10, .int v11, .int v12, .ref ta])), (sa, .inl (dA 0, 718, .inl (upd (tickK f i) 1 (((tickK f i) 1) + (nI (1)))))), (pa, .inl (dA 0, 2872, .inl (chG v4 f g ps))), (ha, .inl (dA 0, 718, .inl h)), (xa, .inl (dA 0, 60, .inl tx)), (ta, .inl (dA 0, 3, .inl td))] H := hP
      have hD : va_D A [(m0, .inr (4, [.ref sa, .ref pa, .ref ha, .int (nI (chP v4 ps)), .int v4, .ref xa, .int v6, .int v7, .int v8, .int v9, .int v10, .int v11, .int v12, .ref ta])), (sa, .inl (dA 0, 718, .inl (upd (tickK f i) 1 (((tickK f i) 1) + (nI (1)))))), (pa, .inl (dA 0, 2872, .inl (chG v4 f g ps))), (ha, .inl (dA 0, 718, .inl h)), (xa, .inl (dA 0, 60, .inl tx)), (ta, .inl (dA 0, 3, .inl td))] := hD
      rw [show (upd (tickK f i) 1 (((tickK f i) 1) + (nI (1))) : Nat → Int32) = tickU (tickK f i) from rfl] at hP hD
      refine lv_iconst (v := nI (0)) hx hb dX4_tick_36 (by decide) ?_
      refine lv_istore (lv' := [(4, .int (nI (0))), (0, .ref m0), (1, .int (nI (t))), (2, .int (nI (tickS f i))), (3, .int (nI (i)))]) hx hb dX4_tick_37 hl (by decide) rfl (fun ls hl => ?_)
      refine lv_iload hx hb dX4_tick_39 (lv_at hl 0 rfl) ?_
      refine lv_iconst (v := nI (2)) hx hb dX4_tick_41 (by decide) ?_
      refine lv_icmp_ge (tgt := 103) hx hb dX4_tick_42 (by decide) (fun c_5 => ?_) (fun c_5 => ?_)
      · exact absurd c_5 (by decide)
      · have hJ : InvA (tickU (tickK f i)) := InvA_tickU (InvA_tickK hI0 i)
        obtain ⟨kf0, kn, ksb, krt, krt2⟩ := hJ
        obtain ⟨krc, kap, kar, krl⟩ := ksb 0 (by omega)
        refine lv_aload_n hx hb dX4_tick_45 rfl (lv_at hl 1 rfl) ?_
        refine lv_iload hx hb dX4_tick_46 (lv_at hl 0 rfl) ?_
        refine lv_aload_n hx hb dX4_tick_48 rfl (lv_at hl 1 rfl) ?_
        refine lv_iload hx hb dX4_tick_49 (lv_at hl 0 rfl) ?_
        refine lv_iconst (v := nI (1)) hx hb dX4_tick_51 (by decide) ?_
        refine z_cVi (As := [.int (nI (0)), .int (nI (1))]) (rest := [.int (nI (0)), .ref m0]) ⟨hx, hb, hml, hown, hts⟩ (mX4_ofStandby l D dA ad H.size m0 sa pa ha xa ta (nI (chP v4 ps)) v4 v6 v7 v8 v9 v10 v11 v12 (tickU (tickK f i)) 0 1 (by omega) (by omega)) (cwV 2 hts (lw_V q1420 q1422 qs30 q67 q1423) rfl rfl rfl (by decide +kernel) ⟨Nat.le_of_ble_eq_true rfl, Nat.le_of_ble_eq_true rfl⟩) hC hS (fun _ h => hA _ (Nat.le_trans hS.1 h)) (hP.sub (ws' := [(m0, .inr (4, [.ref sa, .ref pa, .ref ha, .int (nI (chP v4 ps)), .int v4, .ref xa, .int v6, .int v7, .int v8, .int v9, .int v10, .int v11, .int v12, .ref ta])), (sa, .inl (dA 0, 718, .inl (tickU (tickK f i))))]) [0, 1] rfl) (va_recv hK hP (ci := 4) (q0 := 0) rfl rfl) rfl rfl hl.1 (Nat.le_of_ble_eq_true rfl) dX4_tick_52 ⟨Nat.le_of_ble_eq_true rfl, Nat.le_of_ble_eq_true rfl⟩ (fun r_6 H locs hQ hF hS => ?_)
        have hP := va_P.ro hF hP
        obtain rfl : sbf (tickU (tickK f i)) 0 1 = r_6 := hQ.symm
        refine lv_tope (y := nI (apN (tickU (tickK f i)) 0)) (kap) ?_
        refine lv_aload_n hx hb dX4_tick_55 rfl (lv_at hl 1 rfl) ?_
        refine va_get (D := D) (ci := 4) (v := .ref sa) (C := RX4) (T := TX4) (N := 14) hx hb hts in_X4 hown hK hP 0 rfl rfl 0 (by decide) (hts _ q1329) (fun _ h9 => h9) rfl dX4_tick_56 ?_
        refine lv_iconst (v := nI (1)) hx hb dX4_tick_59 (by decide) ?_
        refine va_iald hx hb hK hP 1 0 rfl rfl (vp_in_nI (by omega) (by omega)) dX4_tick_60 ?_
        refine lv_tope (y := (tickU (tickK f i)) 1) (by rw [nI_clamp (by omega)]) ?_
        refine lv_aload_n hx hb dX4_tick_61 rfl (lv_at hl 1 rfl) ?_
        refine va_get (D := D) (ci := 4) (v := .ref sa) (C := RX4) (T := TX4) (N := 14) hx hb hts in_X4 hown hK hP 0 rfl rfl 0 (by decide) (hts _ q1329) (fun _ h9 => h9) rfl dX4_tick_62 ?_
        refine lv_bipush (v := nI (7)) hx hb dX4_tick_65 (by decide) ?_
        refine va_iald hx hb hK hP 1 0 rfl rfl (vp_in_nI (by omega) (by omega)) dX4_tick_67 ?_
        refine lv_tope (y := (tickU (tickK f i)) 7) (by rw [nI_clamp (by omega)]) ?_
        refine lv_tope (y := nI (rtN (tickU (tickK f i)))) (krt) ?_
        refine z_cVi (As := [.int (nI (0)), .int (nI (apN (tickU (tickK f i)) 0)), .int ((tickU (tickK f i)) 1), .int (nI (rtN (tickU (tickK f i))))]) (rest := []) ⟨hx, hb, hml, hown, hts⟩ (mX4_goes l D dA ad H.size m0 sa pa ha xa ta (nI (chP v4 ps)) v4 v6 v7 v8 v9 v10 v11 v12 (tickU (tickK f i)) 0 (apN (tickU (tickK f i)) 0) ((tickU (tickK f i)) 1) (rtN (tickU (tickK f i))) (rcN (tickU (tickK f i)) 0) (by omega) (krc) (by omega) (by omega) (by omega)) (cwV 4 hts (lw_V q1448 q1450 qs34 q67 q1451) rfl rfl rfl (by decide +kernel) ⟨Nat.le_of_ble_eq_true rfl, Nat.le_of_ble_eq_true rfl⟩) hC hS (fun _ h => hA _ (Nat.le_trans hS.1 h)) (hP.sub (ws' := [(m0, .inr (4, [.ref sa, .ref pa, .ref ha, .int (nI (chP v4 ps)), .int v4, .ref xa, .int v6, .int v7, .int v8, .int v9, .int v10, .int v11, .int v12, .ref ta])), (sa, .inl (dA 0, 718, .inl (tickU (tickK f i))))]) [0, 1] rfl) (va_recv hK hP (ci := 4) (q0 := 0) rfl rfl) rfl rfl hl.1 (Nat.le_of_ble_eq_true rfl) dX4_tick_68 ⟨Nat.le_of_ble_eq_true rfl, Nat.le_of_ble_eq_true rfl⟩ (fun r_7 H locs hQ hF hS => ?_)
        have hP := va_P.ro hF hP
        obtain rfl : nI (goesA (tickU (tickK f i)) 0 ((tickU (tickK f i)) 1) (rtN (tickU (tickK f i))) (apN (tickU (tickK f i)) 0)) = r_7 := hQ.symm
        refine lv_istore (lv' := [(5, .int (nI (goesA (tickU (tickK f i)) 0 ((tickU (tickK f i)) 1) (rtN (tickU (tickK f i))) (apN (tickU (tickK f i)) 0)))), (4, .int (nI (0))), (0, .ref m0), (1, .int (nI (t))), (2, .int (nI (tickS f i))), (3, .int (nI (i)))]) hx hb dX4_tick_71 hl (by decide) rfl (fun ls hl => ?_)
        refine lv_aload_n hx hb dX4_tick_73 rfl (lv_at hl 2 rfl) ?_
        refine va_get (D := D) (ci := 4) (v := .ref sa) (C := RX4) (T := TX4) (N := 14) hx hb hts in_X4 hown hK hP 0 rfl rfl 0 (by decide) (hts _ q1329) (fun _ h9 => h9) rfl dX4_tick_74 ?_
        refine lv_bipush (v := nI (12)) hx hb dX4_tick_77 (by decide) ?_
        refine lv_iconst (v := nI (3)) hx hb dX4_tick_79 (by decide) ?_
        refine lv_iload hx hb dX4_tick_80 (lv_at hl 1 rfl) ?_
        refine lv_imul hx hb dX4_tick_82 ?_
        refine lv_tope (y := nI (0)) (by decide) ?_
        refine lv_iadd hx hb dX4_tick_83 ?_
        refine lv_tope (y := nI (12)) (by decide) ?_
        refine lv_iconst (v := nI (1)) hx hb dX4_tick_84 (by decide) ?_
        refine lv_iadd hx hb dX4_tick_85 ?_
        refine lv_tope (y := nI (13)) (by decide) ?_
        refine lv_dup2_11 hx hb dX4_tick_86 rfl rfl ?_
        refine va_iald hx hb hK hP 1 0 rfl rfl (vp_in_nI (by omega) (by omega)) dX4_tick_87 ?_
        refine lv_tope (y := (tickU (tickK f i)) 13) (by rw [nI_clamp (by omega)]) ?_
        refine lv_tope (y := nI (apN (tickU (tickK f i)) 0)) (kap) ?_
        refine lv_iload hx hb dX4_tick_88 (lv_at hl 0 rfl) ?_
        refine lv_iadd hx hb dX4_tick_90 ?_
        refine lv_tope (y := nI ((apN (tickU (tickK f i)) 0) + (goesA (tickU (tickK f i)) 0 ((tickU (tickK f i)) 1) (rtN (tickU (tickK f i))) (apN (tickU (tickK f i)) 0)))) (nI_add _ _) ?_
        refine va_iast hx hb hK hP hD hS 1 0 rfl rfl (vp_in_nI (by omega) (by omega)) dX4_tick_91 (fun H locs hP hD hS => ?_)
        rw [nI_clamp (by omega)] at hP hD
        have hP : va_P D vwCl [(m0, .inr (4, [.ref sa, .ref pa, .ref ha, .int (nI (chP v4 ps)), .int v4, .ref xa, .int v6, .int v7, .int v8, .int v9, .int v10, .int v11, .int v12, .ref ta])), (sa, .inl (dA 0, 718, .inl (upd (tickU (tickK f i)) 13 (nI ((apN (tickU (tickK f i)) 0) + (goesA (tickU (tickK f i)) 0 ((tickU (tickK f i)) 1) (rtN (tickU (tickK f i))) (apN (tickU (tickK f i)) 0))))))), (pa, .inl (dA 0, 2872, .inl (chG v4 f g ps))), (ha, .inl (dA 0, 718, .inl h)), (xa, .inl (dA 0, 60, .inl tx)), (ta, .inl (dA 0, 3, .inl td))] H := hP
        have hD : va_D A [(m0, .inr (4, [.ref sa, .ref pa, .ref ha, .int (nI (chP v4 ps)), .int v4, .ref xa, .int v6, .int v7, .int v8, .int v9, .int v10, .int v11, .int v12, .ref ta])), (sa, .inl (dA 0, 718, .inl (upd (tickU (tickK f i)) 13 (nI ((apN (tickU (tickK f i)) 0) + (goesA (tickU (tickK f i)) 0 ((tickU (tickK f i)) 1) (rtN (tickU (tickK f i))) (apN (tickU (tickK f i)) 0))))))), (pa, .inl (dA 0, 2872, .inl (chG v4 f g ps))), (ha, .inl (dA 0, 718, .inl h)), (xa, .inl (dA 0, 60, .inl tx)), (ta, .inl (dA 0, 3, .inl td))] := hD
        rw [show (upd (tickU (tickK f i)) 13 (nI ((apN (tickU (tickK f i)) 0) + (goesA (tickU (tickK f i)) 0 ((tickU (tickK f i)) 1) (rtN (tickU (tickK f i))) (apN (tickU (tickK f i)) 0)))) : Nat → Int32) = tickB (tickU (tickK f i)) 0 from rfl] at hP hD
        refine lv_iload_n hx hb dX4_tick_92 rfl (lv_at hl 4 rfl) ?_
        refine lv_iload hx hb dX4_tick_93 (lv_at hl 0 rfl) ?_
        refine lv_iadd hx hb dX4_tick_95 ?_
        refine lv_tope (y := nI ((tickS f i) + (goesA (tickU (tickK f i)) 0 ((tickU (tickK f i)) 1) (rtN (tickU (tickK f i))) (apN (tickU (tickK f i)) 0)))) (nI_add _ _) ?_
        refine lv_istore_n (lv' := [(2, .int (nI ((tickS f i) + (goesA (tickU (tickK f i)) 0 ((tickU (tickK f i)) 1) (rtN (tickU (tickK f i))) (apN (tickU (tickK f i)) 0))))), (5, .int (nI (goesA (tickU (tickK f i)) 0 ((tickU (tickK f i)) 1) (rtN (tickU (tickK f i))) (apN (tickU (tickK f i)) 0)))), (4, .int (nI (0))), (0, .ref m0), (1, .int (nI (t))), (3, .int (nI (i)))]) hx hb dX4_tick_96 rfl hl (by decide) rfl (fun ls hl => ?_)
        refine lv_iinc (v := nI (1)) (lv' := [(4, .int (nI (1))), (2, .int (nI ((tickS f i) + (goesA (tickU (tickK f i)) 0 ((tickU (tickK f i)) 1) (rtN (tickU (tickK f i))) (apN (tickU (tickK f i)) 0))))), (5, .int (nI (goesA (tickU (tickK f i)) 0 ((tickU (tickK f i)) 1) (rtN (tickU (tickK f i))) (apN (tickU (tickK f i)) 0)))), (0, .ref m0), (1, .int (nI (t))), (3, .int (nI (i)))]) hx hb dX4_tick_97 hl (k := 2) rfl (by decide) (by decide) rfl (fun ls hl => ?_)
        refine lv_goto (tgt := 39) hx hb dX4_tick_100 (by decide) ?_
        refine lv_iload hx hb dX4_tick_39 (lv_at hl 0 rfl) ?_
        refine lv_iconst (v := nI (2)) hx hb dX4_tick_41 (by decide) ?_
        refine lv_icmp_ge (tgt := 103) hx hb dX4_tick_42 (by decide) (fun c_8 => ?_) (fun c_8 => ?_)
        · exact absurd c_8 (by decide)
        · have hJ : InvA (tickB (tickU (tickK f i)) 0) := InvA_tickB (b := 0) (by omega) (InvA_tickU (InvA_tickK hI0 i))
          obtain ⟨kf0, kn, ksb, krt, krt2⟩ := hJ
          obtain ⟨krc, kap, kar, krl⟩ := ksb 1 (by omega)
          refine lv_aload_n hx hb dX4_tick_45 rfl (lv_at hl 3 rfl) ?_
          refine lv_iload hx hb dX4_tick_46 (lv_at hl 0 rfl) ?_
          refine lv_aload_n hx hb dX4_tick_48 rfl (lv_at hl 3 rfl) ?_
          refine lv_iload hx hb dX4_tick_49 (lv_at hl 0 rfl) ?_
          refine lv_iconst (v := nI (1)) hx hb dX4_tick_51 (by decide) ?_
          refine z_cVi (As := [.int (nI (1)), .int (nI (1))]) (rest := [.int (nI (1)), .ref m0]) ⟨hx, hb, hml, hown, hts⟩ (mX4_ofStandby l D dA ad H.size m0 sa pa ha xa ta (nI (chP v4 ps)) v4 v6 v7 v8 v9 v10 v11 v12 (tickB (tickU (tickK f i)) 0) 1 1 (by omega) (by omega)) (cwV 2 hts (lw_V q1420 q1422 qs30 q67 q1423) rfl rfl rfl (by decide +kernel) ⟨Nat.le_of_ble_eq_true rfl, Nat.le_of_ble_eq_true rfl⟩) hC hS (fun _ h => hA _ (Nat.le_trans hS.1 h)) (hP.sub (ws' := [(m0, .inr (4, [.ref sa, .ref pa, .ref ha, .int (nI (chP v4 ps)), .int v4, .ref xa, .int v6, .int v7, .int v8, .int v9, .int v10, .int v11, .int v12, .ref ta])), (sa, .inl (dA 0, 718, .inl (tickB (tickU (tickK f i)) 0)))]) [0, 1] rfl) (va_recv hK hP (ci := 4) (q0 := 0) rfl rfl) rfl rfl hl.1 (Nat.le_of_ble_eq_true rfl) dX4_tick_52 ⟨Nat.le_of_ble_eq_true rfl, Nat.le_of_ble_eq_true rfl⟩ (fun r_9 H locs hQ hF hS => ?_)
          have hP := va_P.ro hF hP
          obtain rfl : sbf (tickB (tickU (tickK f i)) 0) 1 1 = r_9 := hQ.symm
          refine lv_tope (y := nI (apN (tickB (tickU (tickK f i)) 0) 1)) (kap) ?_
          refine lv_aload_n hx hb dX4_tick_55 rfl (lv_at hl 3 rfl) ?_
          refine va_get (D := D) (ci := 4) (v := .ref sa) (C := RX4) (T := TX4) (N := 14) hx hb hts in_X4 hown hK hP 0 rfl rfl 0 (by decide) (hts _ q1329) (fun _ h9 => h9) rfl dX4_tick_56 ?_
          refine lv_iconst (v := nI (1)) hx hb dX4_tick_59 (by decide) ?_
          refine va_iald hx hb hK hP 1 0 rfl rfl (vp_in_nI (by omega) (by omega)) dX4_tick_60 ?_
          refine lv_tope (y := (tickB (tickU (tickK f i)) 0) 1) (by rw [nI_clamp (by omega)]) ?_
          refine lv_aload_n hx hb dX4_tick_61 rfl (lv_at hl 3 rfl) ?_
          refine va_get (D := D) (ci := 4) (v := .ref sa) (C := RX4) (T := TX4) (N := 14) hx hb hts in_X4 hown hK hP 0 rfl rfl 0 (by decide) (hts _ q1329) (fun _ h9 => h9) rfl dX4_tick_62 ?_
          refine lv_bipush (v := nI (7)) hx hb dX4_tick_65 (by decide) ?_
          refine va_iald hx hb hK hP 1 0 rfl rfl (vp_in_nI (by omega) (by omega)) dX4_tick_67 ?_
          refine lv_tope (y := (tickB (tickU (tickK f i)) 0) 7) (by rw [nI_clamp (by omega)]) ?_
          refine lv_tope (y := nI (rtN (tickB (tickU (tickK f i)) 0))) (krt) ?_
          refine z_cVi (As := [.int (nI (1)), .int (nI (apN (tickB (tickU (tickK f i)) 0) 1)), .int ((tickB (tickU (tickK f i)) 0) 1), .int (nI (rtN (tickB (tickU (tickK f i)) 0)))]) (rest := []) ⟨hx, hb, hml, hown, hts⟩ (mX4_goes l D dA ad H.size m0 sa pa ha xa ta (nI (chP v4 ps)) v4 v6 v7 v8 v9 v10 v11 v12 (tickB (tickU (tickK f i)) 0) 1 (apN (tickB (tickU (tickK f i)) 0) 1) ((tickB (tickU (tickK f i)) 0) 1) (rtN (tickB (tickU (tickK f i)) 0)) (rcN (tickB (tickU (tickK f i)) 0) 1) (by omega) (krc) (by omega) (by omega) (by omega)) (cwV 4 hts (lw_V q1448 q1450 qs34 q67 q1451) rfl rfl rfl (by decide +kernel) ⟨Nat.le_of_ble_eq_true rfl, Nat.le_of_ble_eq_true rfl⟩) hC hS (fun _ h => hA _ (Nat.le_trans hS.1 h)) (hP.sub (ws' := [(m0, .inr (4, [.ref sa, .ref pa, .ref ha, .int (nI (chP v4 ps)), .int v4, .ref xa, .int v6, .int v7, .int v8, .int v9, .int v10, .int v11, .int v12, .ref ta])), (sa, .inl (dA 0, 718, .inl (tickB (tickU (tickK f i)) 0)))]) [0, 1] rfl) (va_recv hK hP (ci := 4) (q0 := 0) rfl rfl) rfl rfl hl.1 (Nat.le_of_ble_eq_true rfl) dX4_tick_68 ⟨Nat.le_of_ble_eq_true rfl, Nat.le_of_ble_eq_true rfl⟩ (fun r_10 H locs hQ hF hS => ?_)
          have hP := va_P.ro hF hP
          obtain rfl : nI (goesA (tickB (tickU (tickK f i)) 0) 1 ((tickB (tickU (tickK f i)) 0) 1) (rtN (tickB (tickU (tickK f i)) 0)) (apN (tickB (tickU (tickK f i)) 0) 1)) = r_10 := hQ.symm
          refine lv_istore (lv' := [(5, .int (nI (goesA (tickB (tickU (tickK f i)) 0) 1 ((tickB (tickU (tickK f i)) 0) 1) (rtN (tickB (tickU (tickK f i)) 0)) (apN (tickB (tickU (tickK f i)) 0) 1)))), (4, .int (nI (1))), (2, .int (nI ((tickS f i) + (goesA (tickU (tickK f i)) 0 ((tickU (tickK f i)) 1) (rtN (tickU (tickK f i))) (apN (tickU (tickK f i)) 0))))), (0, .ref m0), (1, .int (nI (t))), (3, .int (nI (i)))]) hx hb dX4_tick_71 hl (by decide) rfl (fun ls hl => ?_)
          refine lv_aload_n hx hb dX4_tick_73 rfl (lv_at hl 3 rfl) ?_
          refine va_get (D := D) (ci := 4) (v := .ref sa) (C := RX4) (T := TX4) (N := 14) hx hb hts in_X4 hown hK hP 0 rfl rfl 0 (by decide) (hts _ q1329) (fun _ h9 => h9) rfl dX4_tick_74 ?_
          refine lv_bipush (v := nI (12)) hx hb dX4_tick_77 (by decide) ?_
          refine lv_iconst (v := nI (3)) hx hb dX4_tick_79 (by decide) ?_
          refine lv_iload hx hb dX4_tick_80 (lv_at hl 1 rfl) ?_
          refine lv_imul hx hb dX4_tick_82 ?_
          refine lv_tope (y := nI (3)) (by decide) ?_
          refine lv_iadd hx hb dX4_tick_83 ?_
          refine lv_tope (y := nI (15)) (by decide) ?_
          refine lv_iconst (v := nI (1)) hx hb dX4_tick_84 (by decide) ?_
          refine lv_iadd hx hb dX4_tick_85 ?_
          refine lv_tope (y := nI (16)) (by decide) ?_
          refine lv_dup2_11 hx hb dX4_tick_86 rfl rfl ?_
          refine va_iald hx hb hK hP 1 0 rfl rfl (vp_in_nI (by omega) (by omega)) dX4_tick_87 ?_
          refine lv_tope (y := (tickB (tickU (tickK f i)) 0) 16) (by rw [nI_clamp (by omega)]) ?_
          refine lv_tope (y := nI (apN (tickB (tickU (tickK f i)) 0) 1)) (kap) ?_
          refine lv_iload hx hb dX4_tick_88 (lv_at hl 0 rfl) ?_
          refine lv_iadd hx hb dX4_tick_90 ?_
          refine lv_tope (y := nI ((apN (tickB (tickU (tickK f i)) 0) 1) + (goesA (tickB (tickU (tickK f i)) 0) 1 ((tickB (tickU (tickK f i)) 0) 1) (rtN (tickB (tickU (tickK f i)) 0)) (apN (tickB (tickU (tickK f i)) 0) 1)))) (nI_add _ _) ?_
          refine va_iast hx hb hK hP hD hS 1 0 rfl rfl (vp_in_nI (by omega) (by omega)) dX4_tick_91 (fun H locs hP hD hS => ?_)
          rw [nI_clamp (by omega)] at hP hD
          have hP : va_P D vwCl [(m0, .inr (4, [.ref sa, .ref pa, .ref ha, .int (nI (chP v4 ps)), .int v4, .ref xa, .int v6, .int v7, .int v8, .int v9, .int v10, .int v11, .int v12, .ref ta])), (sa, .inl (dA 0, 718, .inl (upd (tickB (tickU (tickK f i)) 0) 16 (nI ((apN (tickB (tickU (tickK f i)) 0) 1) + (goesA (tickB (tickU (tickK f i)) 0) 1 ((tickB (tickU (tickK f i)) 0) 1) (rtN (tickB (tickU (tickK f i)) 0)) (apN (tickB (tickU (tickK f i)) 0) 1))))))), (pa, .inl (dA 0, 2872, .inl (chG v4 f g ps))), (ha, .inl (dA 0, 718, .inl h)), (xa, .inl (dA 0, 60, .inl tx)), (ta, .inl (dA 0, 3, .inl td))] H := hP
          have hD : va_D A [(m0, .inr (4, [.ref sa, .ref pa, .ref ha, .int (nI (chP v4 ps)), .int v4, .ref xa, .int v6, .int v7, .int v8, .int v9, .int v10, .int v11, .int v12, .ref ta])), (sa, .inl (dA 0, 718, .inl (upd (tickB (tickU (tickK f i)) 0) 16 (nI ((apN (tickB (tickU (tickK f i)) 0) 1) + (goesA (tickB (tickU (tickK f i)) 0) 1 ((tickB (tickU (tickK f i)) 0) 1) (rtN (tickB (tickU (tickK f i)) 0)) (apN (tickB (tickU (tickK f i)) 0) 1))))))), (pa, .inl (dA 0, 2872, .inl (chG v4 f g ps))), (ha, .inl (dA 0, 718, .inl h)), (xa, .inl (dA 0, 60, .inl tx)), (ta, .inl (dA 0, 3, .inl td))] := hD
          rw [show (upd (tickB (tickU (tickK f i)) 0) 16 (nI ((apN (tickB (tickU (tickK f i)) 0) 1) + (goesA (tickB (tickU (tickK f i)) 0) 1 ((tickB (tickU (tickK f i)) 0) 1) (rtN (tickB (tickU (tickK f i)) 0)) (apN (tickB (tickU (tickK f i)) 0) 1)))) : Nat → Int32) = tickB (tickB (tickU (tickK f i)) 0) 1 from rfl] at hP hD
          refine lv_iload_n hx hb dX4_tick_92 rfl (lv_at hl 2 rfl) ?_
          refine lv_iload hx hb dX4_tick_93 (lv_at hl 0 rfl) ?_
          refine lv_iadd hx hb dX4_tick_95 ?_
          refine lv_tope (y := nI (((tickS f i) + (goesA (tickU (tickK f i)) 0 ((tickU (tickK f i)) 1) (rtN (tickU (tickK f i))) (apN (tickU (tickK f i)) 0))) + (goesA (tickB (tickU (tickK f i)) 0) 1 ((tickB (tickU (tickK f i)) 0) 1) (rtN (tickB (tickU (tickK f i)) 0)) (apN (tickB (tickU (tickK f i)) 0) 1)))) (nI_add _ _) ?_
          refine lv_istore_n (lv' := [(2, .int (nI (((tickS f i) + (goesA (tickU (tickK f i)) 0 ((tickU (tickK f i)) 1) (rtN (tickU (tickK f i))) (apN (tickU (tickK f i)) 0))) + (goesA (tickB (tickU (tickK f i)) 0) 1 ((tickB (tickU (tickK f i)) 0) 1) (rtN (tickB (tickU (tickK f i)) 0)) (apN (tickB (tickU (tickK f i)) 0) 1))))), (5, .int (nI (goesA (tickB (tickU (tickK f i)) 0) 1 ((tickB (tickU (tickK f i)) 0) 1) (rtN (tickB (tickU (tickK f i)) 0)) (apN (tickB (tickU (tickK f i)) 0) 1)))), (4, .int (nI (1))), (0, .ref m0), (1, .int (nI (t))), (3, .int (nI (i)))]) hx hb dX4_tick_96 rfl hl (by decide) rfl (fun ls hl => ?_)
          refine lv_iinc (v := nI (2)) (lv' := [(4, .int (nI (2))), (2, .int (nI (((tickS f i) + (goesA (tickU (tickK f i)) 0 ((tickU (tickK f i)) 1) (rtN (tickU (tickK f i))) (apN (tickU (tickK f i)) 0))) + (goesA (tickB (tickU (tickK f i)) 0) 1 ((tickB (tickU (tickK f i)) 0) 1) (rtN (tickB (tickU (tickK f i)) 0)) (apN (tickB (tickU (tickK f i)) 0) 1))))), (5, .int (nI (goesA (tickB (tickU (tickK f i)) 0) 1 ((tickB (tickU (tickK f i)) 0) 1) (rtN (tickB (tickU (tickK f i)) 0)) (apN (tickB (tickU (tickK f i)) 0) 1)))), (0, .ref m0), (1, .int (nI (t))), (3, .int (nI (i)))]) hx hb dX4_tick_97 hl (k := 2) rfl (by decide) (by decide) rfl (fun ls hl => ?_)
          refine lv_goto (tgt := 39) hx hb dX4_tick_100 (by decide) ?_
          refine lv_iload hx hb dX4_tick_39 (lv_at hl 0 rfl) ?_
          refine lv_iconst (v := nI (2)) hx hb dX4_tick_41 (by decide) ?_
          refine lv_icmp_ge (tgt := 103) hx hb dX4_tick_42 (by decide) (fun c_11 => ?_) (fun c_11 => ?_)
          · rw [show (tickB (tickB (tickU (tickK f i)) 0) 1 : Nat → Int32) = tickK f (i + 1) from rfl] at hP hD
            refine lv_iinc (v := nI (i + 1)) (lv' := [(3, .int (nI (i + 1))), (4, .int (nI (2))), (2, .int (nI (((tickS f i) + (goesA (tickU (tickK f i)) 0 ((tickU (tickK f i)) 1) (rtN (tickU (tickK f i))) (apN (tickU (tickK f i)) 0))) + (goesA (tickB (tickU (tickK f i)) 0) 1 ((tickB (tickU (tickK f i)) 0) 1) (rtN (tickB (tickU (tickK f i)) 0)) (apN (tickB (tickU (tickK f i)) 0) 1))))), (5, .int (nI (goesA (tickB (tickU (tickK f i)) 0) 1 ((tickB (tickU (tickK f i)) 0) 1) (rtN (tickB (tickU (tickK f i)) 0)) (apN (tickB (tickU (tickK f i)) 0) 1)))), (0, .ref m0), (1, .int (nI (t)))]) hx hb dX4_tick_103 hl (k := 5) rfl (nI_add _ _) (by decide) rfl (fun ls hl => ?_)
            refine lv_goto (tgt := 21) hx hb dX4_tick_106 (by decide) ?_
            exact ih_21 (i + 1) H locs ls ⟨hP, hD.same rfl, hS, (lv_sub (l' := [(0, .ref m0), (1, .int (nI (t))), (2, .int (nI (tickS f (i + 1)))), (3, .int (nI ((i + 1))))]) hl [4, 5, 2, 0] (by rfl)), by omega⟩ (by omega)
          · exact absurd c_11 (by decide)
  · have c_2 := bI_0.1 c_2
    refine lv_ldc (v := (-1000001)) hx hb hown (hts _ q1382) dX4_tick_10 ?_
    exact z_iret (v := (-1000001)) hx hb hr hS (by rw [show oTick f t0 = (false, (-1000001), f) from by unfold oTick; (repeat' split) <;> first | rfl | contradiction | (exfalso; simp_all; done)]; exact ⟨rfl, hP⟩) (by omega) (by omega) dX4_tick_12
