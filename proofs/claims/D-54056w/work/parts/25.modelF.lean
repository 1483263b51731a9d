set_option maxHeartbeats 4000000 in
set_option maxRecDepth 100000 in
theorem mX4_promote (l : Launch) (D : va_G) (dA : Nat → ClassId) (ad : Nat → Nat) (A : Nat → Prop) (sz : Nat) (m0 : Nat) (sa : Nat) (pa : Nat) (ha : Nat) (xa : Nat) (ta : Nat) (v4 : Int32) (v6 : Int32) (v7 : Int32) (v8 : Int32) (v9 : Int32) (v10 : Int32) (v11 : Int32) (v12 : Int32) (f : Nat → Int32) (ps : Nat) (g : Nat → Int32) (h : Nat → Int32) (tx : Nat → Int32) (td : Nat → Int32) (sb : Int32) (hA : ∀ q, sz ≤ q → A q) (hp4 : ps ≤ 4) (hI : InvA f) (hD : va_D A [(m0, .inr (4, [.ref sa, .ref pa, .ref ha, .int (nI (ps)), .int v4, .ref xa, .int v6, .int v7, .int v8, .int v9, .int v10, .int v11, .int v12, .ref ta])), (sa, .inl (dA 0, 718, .inl f)), (pa, .inl (dA 0, 2872, .inl g)), (ha, .inl (dA 0, 718, .inl h)), (xa, .inl (dA 0, 60, .inl tx)), (ta, .inl (dA 0, 3, .inl td))]) : Met l yX4_promote (ws_ yX4_promote cX4_promote 6 (some .int)) ({ frames := 4, cells := 0, slots := 0, locals := 120 }) (va_Pc [.ref m0, .int sb] (zP D dA ad A sz (fun H => va_P D vwCl [(m0, .inr (4, [.ref sa, .ref pa, .ref ha, .int (nI (ps)), .int v4, .ref xa, .int v6, .int v7, .int v8, .int v9, .int v10, .int v11, .int v12, .ref ta])), (sa, .inl (dA 0, 718, .inl f)), (pa, .inl (dA 0, 2872, .inl g)), (ha, .inl (dA 0, 718, .inl h)), (xa, .inl (dA 0, 60, .inl tx)), (ta, .inl (dA 0, 3, .inl td))] H))) (zQi (fun rz H => rz = (oPromote f sb).2.1 ∧ va_P D vwCl [(m0, .inr (4, [.ref sa, .ref pa, .ref ha, .int (nI (gP (oPromote f sb).1 v4 ps)), .int v4, .ref xa, .int v6, .int v7, .int v8, .int v9, .int v10, .int v11, .int v12, .ref ta])), (sa, .inl (dA 0, 718, .inl ((oPromote f sb).2.2))), (pa, .inl (dA 0, 2872, .inl (gG (oPromote f sb).1 v4 f g ps))), (ha, .inl (dA 0, 718, .inl h)), (xa, .inl (dA 0, 60, .inl tx)), (ta, .inl (dA 0, 3, .inl td))] H) A) (0) (0) A := by
  refine Met.ofW (cc := cX4_promote) (maxL := 6) (ret := (some .int)) (by decide) rfl ?_
  intro p e s m args below meth c s₁ B hml hv
  obtain ⟨rfl, hsz, hC, hP⟩ := hv
  have hx := B.exec
  have hb := B.bytes
  have hr := B.returns
  have hts := atoms_spec (ws := ws_ yX4_promote cX4_promote 6 (some .int)) B.pre
  have hts : ∀ w ∈ lw_all, w.before _ s = true := fun w h => hts w (List.mem_cons_of_mem _ h)
  have hown : s.vm.findClass RX4 = some m.cls := findClass_of_methodNamed B.named
  have hlocks := B.notSynchronized
  subst hsz
  have hK := hC.K
  have hS : va_S A s.heap s.heap [] := va_S.rf
  have hP : va_P D vwCl [(m0, .inr (4, [.ref sa, .ref pa, .ref ha, .int (nI (ps)), .int v4, .ref xa, .int v6, .int v7, .int v8, .int v9, .int v10, .int v11, .int v12, .ref ta])), (sa, .inl (dA 0, 718, .inl f)), (pa, .inl (dA 0, 2872, .inl g)), (ha, .inl (dA 0, 718, .inl h)), (xa, .inl (dA 0, 60, .inl tx)), (ta, .inl (dA 0, 3, .inl td))] s.heap := hP
  have hI0 := hI
  obtain ⟨hf0, hn, hsb, hrt, hrt2⟩ := hI
  have hl := lv_entry ([.ref m0, .int sb]) (n := 6) (Nat.le_of_ble_eq_true rfl)
  rw [lg_entry_eq]
  generalize (lg_sl ([.ref m0, .int sb]) ++ List.replicate (6 - (lg_sl ([.ref m0, .int sb])).length) Slot.unset).toArray = ls at hl ⊢
  have hl : lv_has ls 6 [(0, .ref m0), (1, .int sb)] := hl
  refine lv_iload_n hx hb dX4_promote_0 rfl (lv_at hl 1 rfl) ?_
  refine z_cSi (As := [.int sb]) (rest := []) ⟨hx, hb, hml, hown, hts⟩ (mX4_isStandby l D dA ad s.heap.size sb) (va_cwS 1 hts (lw_S q1417 q1418 q67 q1419) rfl rfl rfl (by decide +kernel) ⟨Nat.le_of_ble_eq_true rfl, Nat.le_of_ble_eq_true rfl⟩) hC hS (fun _ h => hA _ (Nat.le_trans hS.1 h)) trivial rfl rfl hl.1 (Nat.le_of_ble_eq_true rfl) dX4_promote_1 ⟨Nat.le_of_ble_eq_true rfl, Nat.le_of_ble_eq_true rfl⟩ (fun r_1 H locs hQ hF hS => ?_)
  have hP := va_P.ro hF hP
  obtain rfl : bI (nI (0) ≤ sb ∧ sb ≤ nI (1)) = r_1 := hQ.symm
  refine lv_if_ne (tgt := 10) hx hb dX4_promote_4 (by decide) (fun c_2 => ?_) (fun c_2 => ?_)
  · have c_2 := bI_1.1 c_2
    obtain ⟨b, h1, rfl⟩ := zr_of (N := 1) c_2 (by decide)
    have h1 : b < 2 := (by omega)
    obtain ⟨hrc, hap, har, hrl⟩ := hsb b h1
    obtain ⟨hrc2, hap2, har2, hrl2⟩ := hsb (1 - b) (by omega)
    refine lv_aload_n hx hb dX4_promote_10 rfl (lv_at hl 0 rfl) ?_
    refine lv_iload_n hx hb dX4_promote_11 rfl (lv_at hl 1 rfl) ?_
    refine lv_iconst (v := nI (2)) hx hb dX4_promote_12 (by decide) ?_
    refine z_cVi (As := [.int (nI (b)), .int (nI (2))]) (rest := []) ⟨hx, hb, hml, hown, hts⟩ (mX4_ofStandby l D dA ad H.size m0 sa pa ha xa ta (nI (ps)) v4 v6 v7 v8 v9 v10 v11 v12 f b 2 (by omega) (by omega)) (cwV 2 hts (lw_V q1420 q1422 qs30 q67 q1423) rfl rfl rfl (by decide +kernel) ⟨Nat.le_of_ble_eq_true rfl, Nat.le_of_ble_eq_true rfl⟩) hC hS (fun _ h => hA _ (Nat.le_trans hS.1 h)) (hP.sub (ws' := [(m0, .inr (4, [.ref sa, .ref pa, .ref ha, .int (nI (ps)), .int v4, .ref xa, .int v6, .int v7, .int v8, .int v9, .int v10, .int v11, .int v12, .ref ta])), (sa, .inl (dA 0, 718, .inl f))]) [0, 1] rfl) (va_recv hK hP (ci := 4) (q0 := 0) rfl rfl) rfl rfl hl.1 (Nat.le_of_ble_eq_true rfl) dX4_promote_13 ⟨Nat.le_of_ble_eq_true rfl, Nat.le_of_ble_eq_true rfl⟩ (fun r_3 H locs hQ hF hS => ?_)
    have hP := va_P.ro hF hP
    obtain rfl : sbf f b 2 = r_3 := hQ.symm
    refine lv_iconst (v := nI (1)) hx hb dX4_promote_16 (by decide) ?_
    refine lv_icmp_ne (tgt := 23) hx hb dX4_promote_17 (by decide) (fun c_4 => ?_) (fun c_4 => ?_)
    · refine lv_aload_n hx hb dX4_promote_23 rfl (lv_at hl 0 rfl) ?_
      refine z_cVv (As := []) (rest := []) ⟨hx, hb, hml, hown, hts⟩ (mX4_changes l D dA ad A H.size m0 sa pa ha xa ta v4 v6 v7 v8 v9 v10 v11 v12 f ps g h tx td (hA_up hA hS) (by omega) (hD.sub [0, 1, 2, 3, 4, 5] (by decide) rfl)) (cwV 0 hts (lw_V q1384 q1386 qs27 q67 q1387) rfl rfl rfl (by decide +kernel) ⟨Nat.le_of_ble_eq_true rfl, Nat.le_of_ble_eq_true rfl⟩) hC hS (fun _ h => h) (hP.sub (ws' := [(m0, .inr (4, [.ref sa, .ref pa, .ref ha, .int (nI (ps)), .int v4, .ref xa, .int v6, .int v7, .int v8, .int v9, .int v10, .int v11, .int v12, .ref ta])), (sa, .inl (dA 0, 718, .inl f)), (pa, .inl (dA 0, 2872, .inl g)), (ha, .inl (dA 0, 718, .inl h)), (xa, .inl (dA 0, 60, .inl tx)), (ta, .inl (dA 0, 3, .inl td))]) [0, 1, 2, 3, 4, 5] rfl) (va_recv hK hP (ci := 4) (q0 := 0) rfl rfl) rfl rfl hl.1 (Nat.le_of_ble_eq_true rfl) dX4_promote_24 ⟨Nat.le_of_ble_eq_true rfl, Nat.le_of_ble_eq_true rfl⟩ (fun H locs hQ hF hS => ?_)
      obtain ⟨hQ, hP⟩ := hQ
      have hD := va_D.same (ws' := [(m0, .inr (4, [.ref sa, .ref pa, .ref ha, .int (nI (chP v4 ps)), .int v4, .ref xa, .int v6, .int v7, .int v8, .int v9, .int v10, .int v11, .int v12, .ref ta])), (sa, .inl (dA 0, 718, .inl f)), (pa, .inl (dA 0, 2872, .inl (chG v4 f g ps))), (ha, .inl (dA 0, 718, .inl h)), (xa, .inl (dA 0, 60, .inl tx)), (ta, .inl (dA 0, 3, .inl td))]) (hD.sub (ws' := [(m0, .inr (4, [.ref sa, .ref pa, .ref ha, .int (nI (ps)), .int v4, .ref xa, .int v6, .int v7, .int v8, .int v9, .int v10, .int v11, .int v12, .ref ta])), (sa, .inl (dA 0, 718, .inl f)), (pa, .inl (dA 0, 2872, .inl g)), (ha, .inl (dA 0, 718, .inl h)), (xa, .inl (dA 0, 60, .inl tx)), (ta, .inl (dA 0, 3, .inl td))]) [0, 1, 2, 3, 4, 5] (by decide) rfl) rfl
      have hP : va_P D vwCl [(m0, .inr (4, [.ref sa, .ref pa, .ref ha, .int (nI (chP v4 ps)), .int v4, .ref xa, .int v6, .int v7, .int v8, .int v9, .int v10, .int v11, .int v12, .ref ta])), (sa, .inl (dA 0, 718, .inl f)), (pa, .inl (dA 0, 2872, .inl (chG v4 f g ps))), (ha, .inl (dA 0, 718, .inl h)), (xa, .inl (dA 0, 60, .inl tx)), (ta, .inl (dA 0, 3, .inl td))] H := hP
      have hD : va_D A [(m0, .inr (4, [.ref sa, .ref pa, .ref ha, .int (nI (chP v4 ps)), .int v4, .ref xa, .int v6, .int v7, .int v8, .int v9, .int v10, .int v11, .int v12, .ref ta])), (sa, .inl (dA 0, 718, .inl f)), (pa, .inl (dA 0, 2872, .inl (chG v4 f g ps))), (ha, .inl (dA 0, 718, .inl h)), (xa, .inl (dA 0, 60, .inl tx)), (ta, .inl (dA 0, 3, .inl td))] := hD
      refine lv_aload_n hx hb dX4_promote_27 rfl (lv_at hl 0 rfl) ?_
      refine lv_iload_n hx hb dX4_promote_28 rfl (lv_at hl 1 rfl) ?_
      refine z_cVi (As := [.int (nI (b))]) (rest := []) ⟨hx, hb, hml, hown, hts⟩ (mX4_wouldBeLost l D dA ad H.size m0 sa pa ha xa ta (nI (chP v4 ps)) v4 v6 v7 v8 v9 v10 v11 v12 f b (by omega) (hI0)) (cwV 1 hts (lw_V q1460 q1462 qs36 q67 q1463) rfl rfl rfl (by decide +kernel) ⟨Nat.le_of_ble_eq_true rfl, Nat.le_of_ble_eq_true rfl⟩) hC hS (fun _ h => hA _ (Nat.le_trans hS.1 h)) (hP.sub (ws' := [(m0, .inr (4, [.ref sa, .ref pa, .ref ha, .int (nI (chP v4 ps)), .int v4, .ref xa, .int v6, .int v7, .int v8, .int v9, .int v10, .int v11, .int v12, .ref ta])), (sa, .inl (dA 0, 718, .inl f))]) [0, 1] rfl) (va_recv hK hP (ci := 4) (q0 := 0) rfl rfl) rfl rfl hl.1 (Nat.le_of_ble_eq_true rfl) dX4_promote_29 ⟨Nat.le_of_ble_eq_true rfl, Nat.le_of_ble_eq_true rfl⟩ (fun r_6 H locs hQ hF hS => ?_)
      have hP := va_P.ro hF hP
      obtain rfl : nI (lost f b) = r_6 := hQ.symm
      refine lv_istore_n (lv' := [(2, .int (nI (lost f b))), (0, .ref m0), (1, .int (nI (b)))]) hx hb dX4_promote_32 rfl hl (by decide) rfl (fun ls hl => ?_)
      refine lv_aload_n hx hb dX4_promote_33 rfl (lv_at hl 1 rfl) ?_
      refine lv_iload_n hx hb dX4_promote_34 rfl (lv_at hl 2 rfl) ?_
      refine lv_iconst (v := nI (1)) hx hb dX4_promote_35 (by decide) ?_
      refine z_cVi (As := [.int (nI (b)), .int (nI (1))]) (rest := []) ⟨hx, hb, hml, hown, hts⟩ (mX4_ofStandby l D dA ad H.size m0 sa pa ha xa ta (nI (chP v4 ps)) v4 v6 v7 v8 v9 v10 v11 v12 f b 1 (by omega) (by omega)) (cwV 2 hts (lw_V q1420 q1422 qs30 q67 q1423) rfl rfl rfl (by decide +kernel) ⟨Nat.le_of_ble_eq_true rfl, Nat.le_of_ble_eq_true rfl⟩) hC hS (fun _ h => hA _ (Nat.le_trans hS.1 h)) (hP.sub (ws' := [(m0, .inr (4, [.ref sa, .ref pa, .ref ha, .int (nI (chP v4 ps)), .int v4, .ref xa, .int v6, .int v7, .int v8, .int v9, .int v10, .int v11, .int v12, .ref ta])), (sa, .inl (dA 0, 718, .inl f))]) [0, 1] rfl) (va_recv hK hP (ci := 4) (q0 := 0) rfl rfl) rfl rfl hl.1 (Nat.le_of_ble_eq_true rfl) dX4_promote_36 ⟨Nat.le_of_ble_eq_true rfl, Nat.le_of_ble_eq_true rfl⟩ (fun r_7 H locs hQ hF hS => ?_)
      have hP := va_P.ro hF hP
      obtain rfl : sbf f b 1 = r_7 := hQ.symm
      refine lv_tope (y := nI (apN f b)) (hap) ?_
      refine lv_istore_n (lv' := [(3, .int (nI (apN f b))), (2, .int (nI (lost f b))), (0, .ref m0), (1, .int (nI (b)))]) hx hb dX4_promote_39 rfl hl (by decide) rfl (fun ls hl => ?_)
      refine lv_iload_n hx hb dX4_promote_40 rfl (lv_at hl 0 rfl) ?_
      refine lv_aload_n hx hb dX4_promote_41 rfl (lv_at hl 2 rfl) ?_
      refine va_get (D := D) (ci := 4) (v := .ref sa) (C := RX4) (T := TX4) (N := 14) hx hb hts in_X4 hown hK hP 0 rfl rfl 0 (by decide) (hts _ q1329) (fun _ h9 => h9) rfl dX4_promote_42 ?_
      refine lv_iconst (v := nI (0)) hx hb dX4_promote_45 (by decide) ?_
      refine va_iald hx hb hK hP 1 0 rfl rfl (vp_in_nI (by omega) (by omega)) dX4_promote_46 ?_
      refine lv_tope (y := f 0) (by rw [nI_clamp (by omega)]) ?_
      refine lv_tope (y := nI (rN f)) (hf0) ?_
      refine lv_icmp_ge (tgt := 54) hx hb dX4_promote_47 (by decide) (fun c_8 => ?_) (fun c_8 => ?_)
      · have c_8 := (nI_leI (by omega) (by omega)).1 c_8
        refine lv_iconst (v := nI (0)) hx hb dX4_promote_54 (by decide) ?_
        refine lv_istore (lv' := [(4, .int (nI (0))), (3, .int (nI (apN f b))), (2, .int (nI (lost f b))), (0, .ref m0), (1, .int (nI (b)))]) hx hb dX4_promote_55 hl (by decide) rfl (fun ls hl => ?_)
        refine lv_aload_n hx hb dX4_promote_57 rfl (lv_at hl 3 rfl) ?_
        refine va_get (D := D) (ci := 4) (v := .ref sa) (C := RX4) (T := TX4) (N := 14) hx hb hts in_X4 hown hK hP 0 rfl rfl 0 (by decide) (hts _ q1329) (fun _ h9 => h9) rfl dX4_promote_58 ?_
        refine lv_iconst (v := nI (0)) hx hb dX4_promote_61 (by decide) ?_
        refine lv_iload_n hx hb dX4_promote_62 rfl (lv_at hl 1 rfl) ?_
        refine va_iast hx hb hK hP hD hS 1 0 rfl rfl (vp_in_nI (by omega) (by omega)) dX4_promote_63 (fun H locs hP hD hS => ?_)
        rw [nI_clamp (by omega)] at hP hD
        have hP : va_P D vwCl [(m0, .inr (4, [.ref sa, .ref pa, .ref ha, .int (nI (chP v4 ps)), .int v4, .ref xa, .int v6, .int v7, .int v8, .int v9, .int v10, .int v11, .int v12, .ref ta])), (sa, .inl (dA 0, 718, .inl (upd f 0 (nI (apN f b))))), (pa, .inl (dA 0, 2872, .inl (chG v4 f g ps))), (ha, .inl (dA 0, 718, .inl h)), (xa, .inl (dA 0, 60, .inl tx)), (ta, .inl (dA 0, 3, .inl td))] H := hP
        have hD : va_D A [(m0, .inr (4, [.ref sa, .ref pa, .ref ha, .int (nI (chP v4 ps)), .int v4, .ref xa, .int v6, .int v7, .int v8, .int v9, .int v10, .int v11, .int v12, .ref ta])), (sa, .inl (dA 0, 718, .inl (upd f 0 (nI (apN f b))))), (pa, .inl (dA 0, 2872, .inl (chG v4 f g ps))), (ha, .inl (dA 0, 718, .inl h)), (xa, .inl (dA 0, 60, .inl tx)), (ta, .inl (dA 0, 3, .inl td))] := hD
        refine lv_aload_n hx hb dX4_promote_64 rfl (lv_at hl 3 rfl) ?_
        refine va_get (D := D) (ci := 4) (v := .ref sa) (C := RX4) (T := TX4) (N := 14) hx hb hts in_X4 hown hK hP 0 rfl rfl 0 (by decide) (hts _ q1329) (fun _ h9 => h9) rfl dX4_promote_65 ?_
        refine lv_iconst (v := nI (4)) hx hb dX4_promote_68 (by decide) ?_
        refine lv_dup2_11 hx hb dX4_promote_69 rfl rfl ?_
        refine va_iald hx hb hK hP 1 0 rfl rfl (vp_in_nI (by omega) (by omega)) dX4_promote_70 ?_
        refine lv_tope (y := (upd f 0 (nI (apN f b))) 4) (by rw [nI_clamp (by omega)]) ?_
        refine lv_tope (y := f 4) (by simp only [upd]; repeat (first | rw [if_neg (by omega)] | rw [if_pos (by omega)])) ?_
        refine lv_iload_n hx hb dX4_promote_71 rfl (lv_at hl 2 rfl) ?_
        refine lv_iadd hx hb dX4_promote_72 ?_
        refine va_iast hx hb hK hP hD hS 1 0 rfl rfl (vp_in_nI (by omega) (by omega)) dX4_promote_73 (fun H locs hP hD hS => ?_)
        rw [nI_clamp (by omega)] at hP hD
        have hP : va_P D vwCl [(m0, .inr (4, [.ref sa, .ref pa, .ref ha, .int (nI (chP v4 ps)), .int v4, .ref xa, .int v6, .int v7, .int v8, .int v9, .int v10, .int v11, .int v12, .ref ta])), (sa, .inl (dA 0, 718, .inl (upd (upd f 0 (nI (apN f b))) 4 ((f 4) + (nI (lost f b)))))), (pa, .inl (dA 0, 2872, .inl (chG v4 f g ps))), (ha, .inl (dA 0, 718, .inl h)), (xa, .inl (dA 0, 60, .inl tx)), (ta, .inl (dA 0, 3, .inl td))] H := hP
        have hD : va_D A [(m0, .inr (4, [.ref sa, .ref pa, .ref ha, .int (nI (chP v4 ps)), .int v4, .ref xa, .int v6, .int v7, .int v8, .int v9, .int v10, .int v11, .int v12, .ref ta])), (sa, .inl (dA 0, 718, .inl (upd (upd f 0 (nI (apN f b))) 4 ((f 4) + (nI (lost f b)))))), (pa, .inl (dA 0, 2872, .inl (chG v4 f g ps))), (ha, .inl (dA 0, 718, .inl h)), (xa, .inl (dA 0, 60, .inl tx)), (ta, .inl (dA 0, 3, .inl td))] := hD
        refine lv_aload_n hx hb dX4_promote_74 rfl (lv_at hl 3 rfl) ?_
        refine va_get (D := D) (ci := 4) (v := .ref sa) (C := RX4) (T := TX4) (N := 14) hx hb hts in_X4 hown hK hP 0 rfl rfl 0 (by decide) (hts _ q1329) (fun _ h9 => h9) rfl dX4_promote_75 ?_
        refine lv_iconst (v := nI (2)) hx hb dX4_promote_78 (by decide) ?_
        refine lv_dup2_11 hx hb dX4_promote_79 rfl rfl ?_
        refine va_iald hx hb hK hP 1 0 rfl rfl (vp_in_nI (by omega) (by omega)) dX4_promote_80 ?_
        refine lv_tope (y := (upd (upd f 0 (nI (apN f b))) 4 ((f 4) + (nI (lost f b)))) 2) (by rw [nI_clamp (by omega)]) ?_
        refine lv_tope (y := f 2) (by simp only [upd]; repeat (first | rw [if_neg (by omega)] | rw [if_pos (by omega)])) ?_
        refine lv_iconst (v := nI (1)) hx hb dX4_promote_81 (by decide) ?_
        refine lv_iadd hx hb dX4_promote_82 ?_
        refine va_iast hx hb hK hP hD hS 1 0 rfl rfl (vp_in_nI (by omega) (by omega)) dX4_promote_83 (fun H locs hP hD hS => ?_)
        rw [nI_clamp (by omega)] at hP hD
        have hP : va_P D vwCl [(m0, .inr (4, [.ref sa, .ref pa, .ref ha, .int (nI (chP v4 ps)), .int v4, .ref xa, .int v6, .int v7, .int v8, .int v9, .int v10, .int v11, .int v12, .ref ta])), (sa, .inl (dA 0, 718, .inl (upd (upd (upd f 0 (nI (apN f b))) 4 ((f 4) + (nI (lost f b)))) 2 ((f 2) + (nI (1)))))), (pa, .inl (dA 0, 2872, .inl (chG v4 f g ps))), (ha, .inl (dA 0, 718, .inl h)), (xa, .inl (dA 0, 60, .inl tx)), (ta, .inl (dA 0, 3, .inl td))] H := hP
        have hD : va_D A [(m0, .inr (4, [.ref sa, .ref pa, .ref ha, .int (nI (chP v4 ps)), .int v4, .ref xa, .int v6, .int v7, .int v8, .int v9, .int v10, .int v11, .int v12, .ref ta])), (sa, .inl (dA 0, 718, .inl (upd (upd (upd f 0 (nI (apN f b))) 4 ((f 4) + (nI (lost f b)))) 2 ((f 2) + (nI (1)))))), (pa, .inl (dA 0, 2872, .inl (chG v4 f g ps))), (ha, .inl (dA 0, 718, .inl h)), (xa, .inl (dA 0, 60, .inl tx)), (ta, .inl (dA 0, 3, .inl td))] := hD
        refine lv_iconst (v := nI (0)) hx hb dX4_promote_84 (by decide) ?_
        refine lv_istore (lv' := [(5, .int (nI (0))), (4, .int (nI (0))), (3, .int (nI (apN f b))), (2, .int (nI (lost f b))), (0, .ref m0), (1, .int (nI (b)))]) hx hb dX4_promote_85 hl (by decide) rfl (fun ls hl => ?_)
        refine lv_iload hx hb dX4_promote_87 (lv_at hl 0 rfl) ?_
        refine lv_iconst (v := nI (3)) hx hb dX4_promote_89 (by decide) ?_
        refine lv_icmp_ge (tgt := 110) hx hb dX4_promote_90 (by decide) (fun c_9 => ?_) (fun c_9 => ?_)
        · exact absurd c_9 (by decide)
        · refine lv_aload_n hx hb dX4_promote_93 rfl (lv_at hl 4 rfl) ?_
          refine va_get (D := D) (ci := 4) (v := .ref sa) (C := RX4) (T := TX4) (N := 14) hx hb hts in_X4 hown hK hP 0 rfl rfl 0 (by decide) (hts _ q1329) (fun _ h9 => h9) rfl dX4_promote_94 ?_
          refine lv_bipush (v := nI (9)) hx hb dX4_promote_97 (by decide) ?_
          refine lv_iload hx hb dX4_promote_99 (lv_at hl 0 rfl) ?_
          refine lv_iadd hx hb dX4_promote_101 ?_
          refine lv_tope (y := nI (9)) (by decide) ?_
          refine lv_iconst (v := nI (0)) hx hb dX4_promote_102 (by decide) ?_
          refine va_iast hx hb hK hP hD hS 1 0 rfl rfl (vp_in_nI (by omega) (by omega)) dX4_promote_103 (fun H locs hP hD hS => ?_)
          rw [nI_clamp (by omega)] at hP hD
          have hP : va_P D vwCl [(m0, .inr (4, [.ref sa, .ref pa, .ref ha, .int (nI (chP v4 ps)), .int v4, .ref xa, .int v6, .int v7, .int v8, .int v9, .int v10, .int v11, .int v12, .ref ta])), (sa, .inl (dA 0, 718, .inl (upd (upd (upd (upd f 0 (nI (apN f b))) 4 ((f 4) + (nI (lost f b)))) 2 ((f 2) + (nI (1)))) 9 (nI (0))))), (pa, .inl (dA 0, 2872, .inl (chG v4 f g ps))), (ha, .inl (dA 0, 718, .inl h)), (xa, .inl (dA 0, 60, .inl tx)), (ta, .inl (dA 0, 3, .inl td))] H := hP
          have hD : va_D A [(m0, .inr (4, [.ref sa, .ref pa, .ref ha, .int (nI (chP v4 ps)), .int v4, .ref xa, .int v6, .int v7, .int v8, .int v9, .int v10, .int v11, .int v12, .ref ta])), (sa, .inl (dA 0, 718, .inl (upd (upd (upd (upd f 0 (nI (apN f b))) 4 ((f 4) + (nI (lost f b)))) 2 ((f 2) + (nI (1)))) 9 (nI (0))))), (pa, .inl (dA 0, 2872, .inl (chG v4 f g ps))), (ha, .inl (dA 0, 718, .inl h)), (xa, .inl (dA 0, 60, .inl tx)), (ta, .inl (dA 0, 3, .inl td))] := hD
          refine lv_iinc (v := nI (1)) (lv' := [(5, .int (nI (1))), (4, .int (nI (0))), (3, .int (nI (apN f b))), (2, .int (nI (lost f b))), (0, .ref m0), (1, .int (nI (b)))]) hx hb dX4_promote_104 hl (k := 0) rfl (by decide) (by decide) rfl (fun ls hl => ?_)
          refine lv_goto (tgt := 87) hx hb dX4_promote_107 (by decide) ?_
          refine lv_iload hx hb dX4_promote_87 (lv_at hl 0 rfl) ?_
          refine lv_iconst (v := nI (3)) hx hb dX4_promote_89 (by decide) ?_
          refine lv_icmp_ge (tgt := 110) hx hb dX4_promote_90 (by decide) (fun c_10 => ?_) (fun c_10 => ?_)
          · exact absurd c_10 (by decide)
          · refine lv_aload_n hx hb dX4_promote_93 rfl (lv_at hl 4 rfl) ?_
            refine va_get (D := D) (ci := 4) (v := .ref sa) (C := RX4) (T := TX4) (N := 14) hx hb hts in_X4 hown hK hP 0 rfl rfl 0 (by decide) (hts _ q1329) (fun _ h9 => h9) rfl dX4_promote_94 ?_
            refine lv_bipush (v := nI (9)) hx hb dX4_promote_97 (by decide) ?_
            refine lv_iload hx hb dX4_promote_99 (lv_at hl 0 rfl) ?_
            refine lv_iadd hx hb dX4_promote_101 ?_
            refine lv_tope (y := nI (10)) (by decide) ?_
            refine lv_iconst (v := nI (0)) hx hb dX4_promote_102 (by decide) ?_
            refine va_iast hx hb hK hP hD hS 1 0 rfl rfl (vp_in_nI (by omega) (by omega)) dX4_promote_103 (fun H locs hP hD hS => ?_)
            rw [nI_clamp (by omega)] at hP hD
            have hP : va_P D vwCl [(m0, .inr (4, [.ref sa, .ref pa, .ref ha, .int (nI (chP v4 ps)), .int v4, .ref xa, .int v6, .int v7, .int v8, .int v9, .int v10, .int v11, .int v12, .ref ta])), (sa, .inl (dA 0, 718, .inl (upd (upd (upd (upd (upd f 0 (nI (apN f b))) 4 ((f 4) + (nI (lost f b)))) 2 ((f 2) + (nI (1)))) 9 (nI (0))) 10 (nI (0))))), (pa, .inl (dA 0, 2872, .inl (chG v4 f g ps))), (ha, .inl (dA 0, 718, .inl h)), (xa, .inl (dA 0, 60, .inl tx)), (ta, .inl (dA 0, 3, .inl td))] H := hP
            have hD : va_D A [(m0, .inr (4, [.ref sa, .ref pa, .ref ha, .int (nI (chP v4 ps)), .int v4, .ref xa, .int v6, .int v7, .int v8, .int v9, .int v10, .int v11, .int v12, .ref ta])), (sa, .inl (dA 0, 718, .inl (upd (upd (upd (upd (upd f 0 (nI (apN f b))) 4 ((f 4) + (nI (lost f b)))) 2 ((f 2) + (nI (1)))) 9 (nI (0))) 10 (nI (0))))), (pa, .inl (dA 0, 2872, .inl (chG v4 f g ps))), (ha, .inl (dA 0, 718, .inl h)), (xa, .inl (dA 0, 60, .inl tx)), (ta, .inl (dA 0, 3, .inl td))] := hD
            refine lv_iinc (v := nI (2)) (lv' := [(5, .int (nI (2))), (4, .int (nI (0))), (3, .int (nI (apN f b))), (2, .int (nI (lost f b))), (0, .ref m0), (1, .int (nI (b)))]) hx hb dX4_promote_104 hl (k := 0) rfl (by decide) (by decide) rfl (fun ls hl => ?_)
            refine lv_goto (tgt := 87) hx hb dX4_promote_107 (by decide) ?_
            refine lv_iload hx hb dX4_promote_87 (lv_at hl 0 rfl) ?_
            refine lv_iconst (v := nI (3)) hx hb dX4_promote_89 (by decide) ?_
            refine lv_icmp_ge (tgt := 110) hx hb dX4_promote_90 (by decide) (fun c_11 => ?_) (fun c_11 => ?_)
            · exact absurd c_11 (by decide)
            · refine lv_aload_n hx hb dX4_promote_93 rfl (lv_at hl 4 rfl) ?_
              refine va_get (D := D) (ci := 4) (v := .ref sa) (C := RX4) (T := TX4) (N := 14) hx hb hts in_X4 hown hK hP 0 rfl rfl 0 (by decide) (hts _ q1329) (fun _ h9 => h9) rfl dX4_promote_94 ?_
              refine lv_bipush (v := nI (9)) hx hb dX4_promote_97 (by decide) ?_
              refine lv_iload hx hb dX4_promote_99 (lv_at hl 0 rfl) ?_
              refine lv_iadd hx hb dX4_promote_101 ?_
              refine lv_tope (y := nI (11)) (by decide) ?_
              refine lv_iconst (v := nI (0)) hx hb dX4_promote_102 (by decide) ?_
              refine va_iast hx hb hK hP hD hS 1 0 rfl rfl (vp_in_nI (by omega) (by omega)) dX4_promote_103 (fun H locs hP hD hS => ?_)
              rw [nI_clamp (by omega)] at hP hD
              have hP : va_P D vwCl [(m0, .inr (4, [.ref sa, .ref pa, .ref ha, .int (nI (chP v4 ps)), .int v4, .ref xa, .int v6, .int v7, .int v8, .int v9, .int v10, .int v11, .int v12, .ref ta])), (sa, .inl (dA 0, 718, .inl (upd (upd (upd (upd (upd (upd f 0 (nI (apN f b))) 4 ((f 4) + (nI (lost f b)))) 2 ((f 2) + (nI (1)))) 9 (nI (0))) 10 (nI (0))) 11 (nI (0))))), (pa, .inl (dA 0, 2872, .inl (chG v4 f g ps))), (ha, .inl (dA 0, 718, .inl h)), (xa, .inl (dA 0, 60, .inl tx)), (ta, .inl (dA 0, 3, .inl td))] H := hP
              have hD : va_D A [(m0, .inr (4, [.ref sa, .ref pa, .ref ha, .int (nI (chP v4 ps)), .int v4, .ref xa, .int v6, .int v7, .int v8, .int v9, .int v10, .int v11, .int v12, .ref ta])), (sa, .inl (dA 0, 718, .inl (upd (upd (upd (upd (upd (upd f 0 (nI (apN f b))) 4 ((f 4) + (nI (lost f b)))) 2 ((f 2) + (nI (1)))) 9 (nI (0))) 10 (nI (0))) 11 (nI (0))))), (pa, .inl (dA 0, 2872, .inl (chG v4 f g ps))), (ha, .inl (dA 0, 718, .inl h)), (xa, .inl (dA 0, 60, .inl tx)), (ta, .inl (dA 0, 3, .inl td))] := hD
              refine lv_iinc (v := nI (3)) (lv' := [(5, .int (nI (3))), (4, .int (nI (0))), (3, .int (nI (apN f b))), (2, .int (nI (lost f b))), (0, .ref m0), (1, .int (nI (b)))]) hx hb dX4_promote_104 hl (k := 0) rfl (by decide) (by decide) rfl (fun ls hl => ?_)
              refine lv_goto (tgt := 87) hx hb dX4_promote_107 (by decide) ?_
              refine lv_iload hx hb dX4_promote_87 (lv_at hl 0 rfl) ?_
              refine lv_iconst (v := nI (3)) hx hb dX4_promote_89 (by decide) ?_
              refine lv_icmp_ge (tgt := 110) hx hb dX4_promote_90 (by decide) (fun c_12 => ?_) (fun c_12 => ?_)
              · refine lv_aload_n hx hb dX4_promote_110 rfl (lv_at hl 4 rfl) ?_
                refine lv_iload_n hx hb dX4_promote_111 rfl (lv_at hl 5 rfl) ?_
                refine lv_iload_n hx hb dX4_promote_112 rfl (lv_at hl 2 rfl) ?_
                refine lv_iload hx hb dX4_promote_113 (lv_at hl 1 rfl) ?_
                refine lv_if_eq (tgt := 122) hx hb dX4_promote_115 (by decide) (fun c_13 => ?_) (fun c_13 => ?_)
                · refine lv_iconst (v := nI (0)) hx hb dX4_promote_122 (by decide) ?_
                  refine lv_tope (y := nI (if apN f b < rN f then 1 else 0)) (by first | rw [if_pos (by omega)] | rw [if_neg (by omega)]) ?_
                  refine z_cVv (As := [.int (nI (b)), .int (nI (apN f b)), .int (nI (if apN f b < rN f then 1 else 0))]) (rest := []) ⟨hx, hb, hml, hown, hts⟩ (mX4_lays l D dA ad A H.size m0 sa pa ha xa ta v4 v6 v7 v8 v9 v10 v11 v12 (upd (upd (upd (upd (upd (upd f 0 (nI (apN f b))) 4 ((f 4) + (nI (lost f b)))) 2 ((f 2) + (nI (1)))) 9 (nI (0))) 10 (nI (0))) 11 (nI (0))) (chP v4 ps) (chG v4 f g ps) h tx td b (apN f b) (nI (if apN f b < rN f then 1 else 0)) (hA_up hA hS) (by omega) (hD.sub [0, 1, 2, 3, 4, 5] (by decide) rfl)) (cwV 3 hts (lw_V q1468 q1470 qs38 q67 q1471) rfl rfl rfl (by decide +kernel) ⟨Nat.le_of_ble_eq_true rfl, Nat.le_of_ble_eq_true rfl⟩) hC hS (fun _ h => h) (hP.sub (ws' := [(m0, .inr (4, [.ref sa, .ref pa, .ref ha, .int (nI (chP v4 ps)), .int v4, .ref xa, .int v6, .int v7, .int v8, .int v9, .int v10, .int v11, .int v12, .ref ta])), (sa, .inl (dA 0, 718, .inl (upd (upd (upd (upd (upd (upd f 0 (nI (apN f b))) 4 ((f 4) + (nI (lost f b)))) 2 ((f 2) + (nI (1)))) 9 (nI (0))) 10 (nI (0))) 11 (nI (0))))), (pa, .inl (dA 0, 2872, .inl (chG v4 f g ps))), (ha, .inl (dA 0, 718, .inl h)), (xa, .inl (dA 0, 60, .inl tx)), (ta, .inl (dA 0, 3, .inl td))]) [0, 1, 2, 3, 4, 5] rfl) (va_recv hK hP (ci := 4) (q0 := 0) rfl rfl) rfl rfl hl.1 (Nat.le_of_ble_eq_true rfl) dX4_promote_123 ⟨Nat.le_of_ble_eq_true rfl, Nat.le_of_ble_eq_true rfl⟩ (fun H locs hQ hF hS => ?_)
                  obtain ⟨hQ, hP⟩ := hQ
                  have hD := va_D.same (ws' := [(m0, .inr (4, [.ref sa, .ref pa, .ref ha, .int (nI ((chP v4 ps))), .int v4, .ref xa, .int v6, .int v7, .int v8, .int v9, .int v10, .int v11, .int v12, .ref ta])), (sa, .inl (dA 0, 718, .inl (laysF (upd (upd (upd (upd (upd (upd f 0 (nI (apN f b))) 4 ((f 4) + (nI (lost f b)))) 2 ((f 2) + (nI (1)))) 9 (nI (0))) 10 (nI (0))) 11 (nI (0))) b (apN f b) (nI (if apN f b < rN f then 1 else 0))))), (pa, .inl (dA 0, 2872, .inl (chG v4 f g ps))), (ha, .inl (dA 0, 718, .inl h)), (xa, .inl (dA 0, 60, .inl tx)), (ta, .inl (dA 0, 3, .inl td))]) (hD.sub (ws' := [(m0, .inr (4, [.ref sa, .ref pa, .ref ha, .int (nI (chP v4 ps)), .int v4, .ref xa, .int v6, .int v7, .int v8, .int v9, .int v10, .int v11, .int v12, .ref ta])), (sa, .inl (dA 0, 718, .inl (upd (upd (upd (upd (upd (upd f 0 (nI (apN f b))) 4 ((f 4) + (nI (lost f b)))) 2 ((f 2) + (nI (1)))) 9 (nI (0))) 10 (nI (0))) 11 (nI (0))))), (pa, .inl (dA 0, 2872, .inl (chG v4 f g ps))), (ha, .inl (dA 0, 718, .inl h)), (xa, .inl (dA 0, 60, .inl tx)), (ta, .inl (dA 0, 3, .inl td))]) [0, 1, 2, 3, 4, 5] (by decide) rfl) rfl
                  have hP : va_P D vwCl [(m0, .inr (4, [.ref sa, .ref pa, .ref ha, .int (nI ((chP v4 ps))), .int v4, .ref xa, .int v6, .int v7, .int v8, .int v9, .int v10, .int v11, .int v12, .ref ta])), (sa, .inl (dA 0, 718, .inl (laysF (upd (upd (upd (upd (upd (upd f 0 (nI (apN f b))) 4 ((f 4) + (nI (lost f b)))) 2 ((f 2) + (nI (1)))) 9 (nI (0))) 10 (nI (0))) 11 (nI (0))) b (apN f b) (nI (if apN f b < rN f then 1 else 0))))), (pa, .inl (dA 0, 2872, .inl (chG v4 f g ps))), (ha, .inl (dA 0, 718, .inl h)), (xa, .inl (dA 0, 60, .inl tx)), (ta, .inl (dA 0, 3, .inl td))] H := hP
                  have hD : va_D A [(m0, .inr (4, [.ref sa, .ref pa, .ref ha, .int (nI ((chP v4 ps))), .int v4, .ref xa, .int v6, .int v7, .int v8, .int v9, .int v10, .int v11, .int v12, .ref ta])), (sa, .inl (dA 0, 718, .inl (laysF (upd (upd (upd (upd (upd (upd f 0 (nI (apN f b))) 4 ((f 4) + (nI (lost f b)))) 2 ((f 2) + (nI (1)))) 9 (nI (0))) 10 (nI (0))) 11 (nI (0))) b (apN f b) (nI (if apN f b < rN f then 1 else 0))))), (pa, .inl (dA 0, 2872, .inl (chG v4 f g ps))), (ha, .inl (dA 0, 718, .inl h)), (xa, .inl (dA 0, 60, .inl tx)), (ta, .inl (dA 0, 3, .inl td))] := hD
                  rw [show (laysF (upd (upd (upd (upd (upd (upd f 0 (nI (apN f b))) 4 ((f 4) + (nI (lost f b)))) 2 ((f 2) + (nI (1)))) 9 (nI (0))) 10 (nI (0))) 11 (nI (0))) b (apN f b) (nI (if apN f b < rN f then 1 else 0)) : Nat → Int32) = proA f b from rfl] at hP hD
                  refine lv_bipush (v := nI (15)) hx hb dX4_promote_126 (by decide) ?_
                  refine lv_iconst (v := nI (3)) hx hb dX4_promote_128 (by decide) ?_
                  refine lv_iload_n hx hb dX4_promote_129 rfl (lv_at hl 5 rfl) ?_
                  refine lv_imul hx hb dX4_promote_130 ?_
                  refine lv_tope (y := nI (3 * b)) (pk_mul _ _) ?_
                  refine lv_isub hx hb dX4_promote_131 ?_
                  refine lv_tope (y := nI (15 - (3 * b))) (pk_sub (by omega)) ?_
                  refine lv_istore (lv' := [(5, .int (nI (15 - (3 * b)))), (4, .int (nI (0))), (3, .int (nI (apN f b))), (2, .int (nI (lost f b))), (0, .ref m0), (1, .int (nI (b)))]) hx hb dX4_promote_132 hl (by decide) rfl (fun ls hl => ?_)
                  refine lv_aload_n hx hb dX4_promote_134 rfl (lv_at hl 4 rfl) ?_
                  refine va_get (D := D) (ci := 4) (v := .ref sa) (C := RX4) (T := TX4) (N := 14) hx hb hts in_X4 hown hK hP 0 rfl rfl 0 (by decide) (hts _ q1329) (fun _ h9 => h9) rfl dX4_promote_135 ?_
                  refine lv_iload hx hb dX4_promote_138 (lv_at hl 0 rfl) ?_
                  refine lv_iconst (v := nI (0)) hx hb dX4_promote_140 (by decide) ?_
                  refine lv_iadd hx hb dX4_promote_141 ?_
                  refine lv_tope (y := nI ((15 - (3 * b)) + 0)) (nI_add _ _) ?_
                  refine lv_aload_n hx hb dX4_promote_142 rfl (lv_at hl 4 rfl) ?_
                  refine va_get (D := D) (ci := 4) (v := .ref sa) (C := RX4) (T := TX4) (N := 14) hx hb hts in_X4 hown hK hP 0 rfl rfl 0 (by decide) (hts _ q1329) (fun _ h9 => h9) rfl dX4_promote_143 ?_
                  refine lv_iload hx hb dX4_promote_146 (lv_at hl 0 rfl) ?_
                  refine lv_iconst (v := nI (0)) hx hb dX4_promote_148 (by decide) ?_
                  refine lv_iadd hx hb dX4_promote_149 ?_
                  refine lv_tope (y := nI ((15 - (3 * b)) + 0)) (nI_add _ _) ?_
                  refine va_iald hx hb hK hP 1 0 rfl rfl (vp_in_nI (by omega) (by omega)) dX4_promote_150 ?_
                  refine lv_tope (y := (proA f b) ((15 - (3 * b)) + 0)) (by rw [nI_clamp (by omega)]) ?_
                  refine lv_tope (y := nI (rcN f (1 - b))) (by rw [proA_o h1 (by omega), ← sbf_o f h1]; exact hrc2) ?_
                  refine lv_iload_n hx hb dX4_promote_151 rfl (lv_at hl 2 rfl) ?_
                  refine lv_icmp_le (tgt := 159) hx hb dX4_promote_152 (by decide) (fun c_15 => ?_) (fun c_15 => ?_)
                  · have c_15 := (nI_leI (by omega) (by omega)).1 c_15
                    refine lv_aload_n hx hb dX4_promote_159 rfl (lv_at hl 4 rfl) ?_
                    refine va_get (D := D) (ci := 4) (v := .ref sa) (C := RX4) (T := TX4) (N := 14) hx hb hts in_X4 hown hK hP 0 rfl rfl 0 (by decide) (hts _ q1329) (fun _ h9 => h9) rfl dX4_promote_160 ?_
                    refine lv_iload hx hb dX4_promote_163 (lv_at hl 0 rfl) ?_
                    refine lv_iconst (v := nI (0)) hx hb dX4_promote_165 (by decide) ?_
                    refine lv_iadd hx hb dX4_promote_166 ?_
                    refine lv_tope (y := nI ((15 - (3 * b)) + 0)) (nI_add _ _) ?_
                    refine va_iald hx hb hK hP 1 0 rfl rfl (vp_in_nI (by omega) (by omega)) dX4_promote_167 ?_
                    refine lv_tope (y := (proA f b) ((15 - (3 * b)) + 0)) (by rw [nI_clamp (by omega)]) ?_
                    refine lv_tope (y := nI (rcN f (1 - b))) (by rw [proA_o h1 (by omega), ← sbf_o f h1]; exact hrc2) ?_
                    refine lv_tope (y := nI (if rcN f (1 - b) ≤ apN f b then rcN f (1 - b) else apN f b)) (by rw [if_pos (by omega)]) ?_
                    refine va_iast hx hb hK hP hD hS 1 0 rfl rfl (vp_in_nI (by omega) (by omega)) dX4_promote_168 (fun H locs hP hD hS => ?_)
                    rw [nI_clamp (by omega)] at hP hD
                    have hP : va_P D vwCl [(m0, .inr (4, [.ref sa, .ref pa, .ref ha, .int (nI ((chP v4 ps))), .int v4, .ref xa, .int v6, .int v7, .int v8, .int v9, .int v10, .int v11, .int v12, .ref ta])), (sa, .inl (dA 0, 718, .inl (upd (proA f b) ((15 - (3 * b)) + 0) (nI (if rcN f (1 - b) ≤ apN f b then rcN f (1 - b) else apN f b))))), (pa, .inl (dA 0, 2872, .inl (chG v4 f g ps))), (ha, .inl (dA 0, 718, .inl h)), (xa, .inl (dA 0, 60, .inl tx)), (ta, .inl (dA 0, 3, .inl td))] H := hP
                    have hD : va_D A [(m0, .inr (4, [.ref sa, .ref pa, .ref ha, .int (nI ((chP v4 ps))), .int v4, .ref xa, .int v6, .int v7, .int v8, .int v9, .int v10, .int v11, .int v12, .ref ta])), (sa, .inl (dA 0, 718, .inl (upd (proA f b) ((15 - (3 * b)) + 0) (nI (if rcN f (1 - b) ≤ apN f b then rcN f (1 - b) else apN f b))))), (pa, .inl (dA 0, 2872, .inl (chG v4 f g ps))), (ha, .inl (dA 0, 718, .inl h)), (xa, .inl (dA 0, 60, .inl tx)), (ta, .inl (dA 0, 3, .inl td))] := hD
                    refine lv_aload_n hx hb dX4_promote_169 rfl (lv_at hl 4 rfl) ?_
                    refine lv_iconst (v := nI (1)) hx hb dX4_promote_170 (by decide) ?_
                    refine lv_iload_n hx hb dX4_promote_171 rfl (lv_at hl 5 rfl) ?_
                    refine lv_isub hx hb dX4_promote_172 ?_
                    refine lv_tope (y := nI (1 - b)) (pk_sub (by omega)) ?_
                    refine lv_iload_n hx hb dX4_promote_173 rfl (lv_at hl 2 rfl) ?_
                    refine z_cVv (As := [.int (nI (1 - b)), .int (nI (apN f b))]) (rest := []) ⟨hx, hb, hml, hown, hts⟩ (mX4_fillsGaps l D dA ad A H.size m0 sa pa ha xa ta v4 v6 v7 v8 v9 v10 v11 v12 (upd (proA f b) ((15 - (3 * b)) + 0) (nI (if rcN f (1 - b) ≤ apN f b then rcN f (1 - b) else apN f b))) (chP v4 ps) (chG v4 f g ps) h tx td (1 - b) (apN f b) (hA_up hA hS) (by omega) (by omega) (hD.sub [0, 1, 2, 3, 4, 5] (by decide) rfl)) (cwV 2 hts (lw_V q1440 q1442 qs33 q67 q1443) rfl rfl rfl (by decide +kernel) ⟨Nat.le_of_ble_eq_true rfl, Nat.le_of_ble_eq_true rfl⟩) hC hS (fun _ h => h) (hP.sub (ws' := [(m0, .inr (4, [.ref sa, .ref pa, .ref ha, .int (nI ((chP v4 ps))), .int v4, .ref xa, .int v6, .int v7, .int v8, .int v9, .int v10, .int v11, .int v12, .ref ta])), (sa, .inl (dA 0, 718, .inl (upd (proA f b) ((15 - (3 * b)) + 0) (nI (if rcN f (1 - b) ≤ apN f b then rcN f (1 - b) else apN f b))))), (pa, .inl (dA 0, 2872, .inl (chG v4 f g ps))), (ha, .inl (dA 0, 718, .inl h)), (xa, .inl (dA 0, 60, .inl tx)), (ta, .inl (dA 0, 3, .inl td))]) [0, 1, 2, 3, 4, 5] rfl) (va_recv hK hP (ci := 4) (q0 := 0) rfl rfl) rfl rfl hl.1 (Nat.le_of_ble_eq_true rfl) dX4_promote_174 ⟨Nat.le_of_ble_eq_true rfl, Nat.le_of_ble_eq_true rfl⟩ (fun H locs hQ hF hS => ?_)
                    obtain ⟨hQ, hP⟩ := hQ
                    have hD := va_D.same (ws' := [(m0, .inr (4, [.ref sa, .ref pa, .ref ha, .int (nI ((chP v4 ps))), .int v4, .ref xa, .int v6, .int v7, .int v8, .int v9, .int v10, .int v11, .int v12, .ref ta])), (sa, .inl (dA 0, 718, .inl (fillG (upd (proA f b) ((15 - (3 * b)) + 0) (nI (if rcN f (1 - b) ≤ apN f b then rcN f (1 - b) else apN f b))) (1 - b) (apN f b)))), (pa, .inl (dA 0, 2872, .inl (chG v4 f g ps))), (ha, .inl (dA 0, 718, .inl h)), (xa, .inl (dA 0, 60, .inl tx)), (ta, .inl (dA 0, 3, .inl td))]) (hD.sub (ws' := [(m0, .inr (4, [.ref sa, .ref pa, .ref ha, .int (nI ((chP v4 ps))), .int v4, .ref xa, .int v6, .int v7, .int v8, .int v9, .int v10, .int v11, .int v12, .ref ta])), (sa, .inl (dA 0, 718, .inl (upd (proA f b) ((15 - (3 * b)) + 0) (nI (if rcN f (1 - b) ≤ apN f b then rcN f (1 - b) else apN f b))))), (pa, .inl (dA 0, 2872, .inl (chG v4 f g ps))), (ha, .inl (dA 0, 718, .inl h)), (xa, .inl (dA 0, 60, .inl tx)), (ta, .inl (dA 0, 3, .inl td))]) [0, 1, 2, 3, 4, 5] (by decide) rfl) rfl
                    have hP : va_P D vwCl [(m0, .inr (4, [.ref sa, .ref pa, .ref ha, .int (nI ((chP v4 ps))), .int v4, .ref xa, .int v6, .int v7, .int v8, .int v9, .int v10, .int v11, .int v12, .ref ta])), (sa, .inl (dA 0, 718, .inl (fillG (upd (proA f b) ((15 - (3 * b)) + 0) (nI (if rcN f (1 - b) ≤ apN f b then rcN f (1 - b) else apN f b))) (1 - b) (apN f b)))), (pa, .inl (dA 0, 2872, .inl (chG v4 f g ps))), (ha, .inl (dA 0, 718, .inl h)), (xa, .inl (dA 0, 60, .inl tx)), (ta, .inl (dA 0, 3, .inl td))] H := hP
                    have hD : va_D A [(m0, .inr (4, [.ref sa, .ref pa, .ref ha, .int (nI ((chP v4 ps))), .int v4, .ref xa, .int v6, .int v7, .int v8, .int v9, .int v10, .int v11, .int v12, .ref ta])), (sa, .inl (dA 0, 718, .inl (fillG (upd (proA f b) ((15 - (3 * b)) + 0) (nI (if rcN f (1 - b) ≤ apN f b then rcN f (1 - b) else apN f b))) (1 - b) (apN f b)))), (pa, .inl (dA 0, 2872, .inl (chG v4 f g ps))), (ha, .inl (dA 0, 718, .inl h)), (xa, .inl (dA 0, 60, .inl tx)), (ta, .inl (dA 0, 3, .inl td))] := hD
                    rw [show (fillG (upd (proA f b) ((15 - (3 * b)) + 0) (nI (if rcN f (1 - b) ≤ apN f b then rcN f (1 - b) else apN f b))) (1 - b) (apN f b) : Nat → Int32) = proB (proA f b) (1 - b) (apN f b) from by unfold proB; rw [rcN_proA h1, show 12 + 3 * (1 - b) + 0 = 15 - 3 * b + 0 by omega]] at hP hD
                    refine lv_aload_n hx hb dX4_promote_177 rfl (lv_at hl 4 rfl) ?_
                    refine va_get (D := D) (ci := 4) (v := .ref sa) (C := RX4) (T := TX4) (N := 14) hx hb hts in_X4 hown hK hP 0 rfl rfl 0 (by decide) (hts _ q1329) (fun _ h9 => h9) rfl dX4_promote_178 ?_
                    refine lv_iload hx hb dX4_promote_181 (lv_at hl 0 rfl) ?_
                    refine lv_iconst (v := nI (1)) hx hb dX4_promote_183 (by decide) ?_
                    refine lv_iadd hx hb dX4_promote_184 ?_
                    refine lv_tope (y := nI ((15 - (3 * b)) + 1)) (nI_add _ _) ?_
                    refine va_iald hx hb hK hP 1 0 rfl rfl (vp_in_nI (by omega) (by omega)) dX4_promote_185 ?_
                    refine lv_tope (y := (proB (proA f b) (1 - b) (apN f b)) ((15 - (3 * b)) + 1)) (by rw [nI_clamp (by omega)]) ?_
                    refine lv_tope (y := nI (apN f (1 - b))) (by rw [proB_o h1 (by omega) (by omega), proA_o h1 (by omega), ← sbf_o f h1]; exact hap2) ?_
                    refine lv_iload_n hx hb dX4_promote_186 rfl (lv_at hl 2 rfl) ?_
                    refine lv_icmp_le (tgt := 210) hx hb dX4_promote_187 (by decide) (fun c_17 => ?_) (fun c_17 => ?_)
                    · have c_17 := (nI_leI (by omega) (by omega)).1 c_17
                      rw [show (proB (proA f b) (1 - b) (apN f b) : Nat → Int32) = proF f b from by unfold proF proC; rw [apN_proB h1]; rw [if_pos (by omega)]] at hP hD
                      refine lv_iload_n hx hb dX4_promote_210 rfl (lv_at hl 3 rfl) ?_
                      exact z_iret (v := nI (lost f b)) hx hb hr hS (by rw [show oPromote f (nI (b)) = (true, nI (lost f b), proF f b) from by unfold oPromote; simp only [nI_clamp (show b < 2 ^ 31 by omega)]; (repeat' split) <;> first | rfl | contradiction | (exfalso; simp_all; done)]; exact ⟨rfl, hP⟩) (by omega) (by omega) dX4_promote_211
                    · have c_17 := mt (nI_leI (by omega) (by omega)).2 c_17
                      refine lv_aload_n hx hb dX4_promote_190 rfl (lv_at hl 4 rfl) ?_
                      refine va_get (D := D) (ci := 4) (v := .ref sa) (C := RX4) (T := TX4) (N := 14) hx hb hts in_X4 hown hK hP 0 rfl rfl 0 (by decide) (hts _ q1329) (fun _ h9 => h9) rfl dX4_promote_191 ?_
                      refine lv_iload hx hb dX4_promote_194 (lv_at hl 0 rfl) ?_
                      refine lv_iconst (v := nI (1)) hx hb dX4_promote_196 (by decide) ?_
                      refine lv_iadd hx hb dX4_promote_197 ?_
                      refine lv_tope (y := nI ((15 - (3 * b)) + 1)) (nI_add _ _) ?_
                      refine lv_iload_n hx hb dX4_promote_198 rfl (lv_at hl 2 rfl) ?_
                      refine va_iast hx hb hK hP hD hS 1 0 rfl rfl (vp_in_nI (by omega) (by omega)) dX4_promote_199 (fun H locs hP hD hS => ?_)
                      rw [nI_clamp (by omega)] at hP hD
                      have hP : va_P D vwCl [(m0, .inr (4, [.ref sa, .ref pa, .ref ha, .int (nI ((chP v4 ps))), .int v4, .ref xa, .int v6, .int v7, .int v8, .int v9, .int v10, .int v11, .int v12, .ref ta])), (sa, .inl (dA 0, 718, .inl (upd (proB (proA f b) (1 - b) (apN f b)) ((15 - (3 * b)) + 1) (nI (apN f b))))), (pa, .inl (dA 0, 2872, .inl (chG v4 f g ps))), (ha, .inl (dA 0, 718, .inl h)), (xa, .inl (dA 0, 60, .inl tx)), (ta, .inl (dA 0, 3, .inl td))] H := hP
                      have hD : va_D A [(m0, .inr (4, [.ref sa, .ref pa, .ref ha, .int (nI ((chP v4 ps))), .int v4, .ref xa, .int v6, .int v7, .int v8, .int v9, .int v10, .int v11, .int v12, .ref ta])), (sa, .inl (dA 0, 718, .inl (upd (proB (proA f b) (1 - b) (apN f b)) ((15 - (3 * b)) + 1) (nI (apN f b))))), (pa, .inl (dA 0, 2872, .inl (chG v4 f g ps))), (ha, .inl (dA 0, 718, .inl h)), (xa, .inl (dA 0, 60, .inl tx)), (ta, .inl (dA 0, 3, .inl td))] := hD
                      refine lv_aload_n hx hb dX4_promote_200 rfl (lv_at hl 4 rfl) ?_
                      refine va_get (D := D) (ci := 4) (v := .ref sa) (C := RX4) (T := TX4) (N := 14) hx hb hts in_X4 hown hK hP 0 rfl rfl 0 (by decide) (hts _ q1329) (fun _ h9 => h9) rfl dX4_promote_201 ?_
                      refine lv_iload hx hb dX4_promote_204 (lv_at hl 0 rfl) ?_
                      refine lv_iconst (v := nI (2)) hx hb dX4_promote_206 (by decide) ?_
                      refine lv_iadd hx hb dX4_promote_207 ?_
                      refine lv_tope (y := nI ((15 - (3 * b)) + 2)) (nI_add _ _) ?_
                      refine lv_iconst (v := nI (1)) hx hb dX4_promote_208 (by decide) ?_
                      refine va_iast hx hb hK hP hD hS 1 0 rfl rfl (vp_in_nI (by omega) (by omega)) dX4_promote_209 (fun H locs hP hD hS => ?_)
                      rw [nI_clamp (by omega)] at hP hD
                      have hP : va_P D vwCl [(m0, .inr (4, [.ref sa, .ref pa, .ref ha, .int (nI ((chP v4 ps))), .int v4, .ref xa, .int v6, .int v7, .int v8, .int v9, .int v10, .int v11, .int v12, .ref ta])), (sa, .inl (dA 0, 718, .inl (upd (upd (proB (proA f b) (1 - b) (apN f b)) ((15 - (3 * b)) + 1) (nI (apN f b))) ((15 - (3 * b)) + 2) (nI (1))))), (pa, .inl (dA 0, 2872, .inl (chG v4 f g ps))), (ha, .inl (dA 0, 718, .inl h)), (xa, .inl (dA 0, 60, .inl tx)), (ta, .inl (dA 0, 3, .inl td))] H := hP
                      have hD : va_D A [(m0, .inr (4, [.ref sa, .ref pa, .ref ha, .int (nI ((chP v4 ps))), .int v4, .ref xa, .int v6, .int v7, .int v8, .int v9, .int v10, .int v11, .int v12, .ref ta])), (sa, .inl (dA 0, 718, .inl (upd (upd (proB (proA f b) (1 - b) (apN f b)) ((15 - (3 * b)) + 1) (nI (apN f b))) ((15 - (3 * b)) + 2) (nI (1))))), (pa, .inl (dA 0, 2872, .inl (chG v4 f g ps))), (ha, .inl (dA 0, 718, .inl h)), (xa, .inl (dA 0, 60, .inl tx)), (ta, .inl (dA 0, 3, .inl td))] := hD
                      rw [show (upd (upd (proB (proA f b) (1 - b) (apN f b)) ((15 - (3 * b)) + 1) (nI (apN f b))) ((15 - (3 * b)) + 2) (nI (1)) : Nat → Int32) = proF f b from by unfold proF proC; rw [apN_proB h1]; rw [if_neg (by omega), show 12 + 3 * (1 - b) = 15 - 3 * b by omega]] at hP hD
                      refine lv_iload_n hx hb dX4_promote_210 rfl (lv_at hl 3 rfl) ?_
                      exact z_iret (v := nI (lost f b)) hx hb hr hS (by rw [show oPromote f (nI (b)) = (true, nI (lost f b), proF f b) from by unfold oPromote; simp only [nI_clamp (show b < 2 ^ 31 by omega)]; (repeat' split) <;> first | rfl | contradiction | (exfalso; simp_all; done)]; exact ⟨rfl, hP⟩) (by omega) (by omega) dX4_promote_211
                  · have c_15 := mt (nI_leI (by omega) (by omega)).2 c_15
                    refine lv_iload_n hx hb dX4_promote_155 rfl (lv_at hl 2 rfl) ?_
                    refine lv_goto (tgt := 168) hx hb dX4_promote_156 (by decide) ?_
                    refine lv_tope (y := nI (if rcN f (1 - b) ≤ apN f b then rcN f (1 - b) else apN f b)) (by rw [if_neg (by omega)]) ?_
                    refine va_iast hx hb hK hP hD hS 1 0 rfl rfl (vp_in_nI (by omega) (by omega)) dX4_promote_168 (fun H locs hP hD hS => ?_)
                    rw [nI_clamp (by omega)] at hP hD
                    have hP : va_P D vwCl [(m0, .inr (4, [.ref sa, .ref pa, .ref ha, .int (nI ((chP v4 ps))), .int v4, .ref xa, .int v6, .int v7, .int v8, .int v9, .int v10, .int v11, .int v12, .ref ta])), (sa, .inl (dA 0, 718, .inl (upd (proA f b) ((15 - (3 * b)) + 0) (nI (if rcN f (1 - b) ≤ apN f b then rcN f (1 - b) else apN f b))))), (pa, .inl (dA 0, 2872, .inl (chG v4 f g ps))), (ha, .inl (dA 0, 718, .inl h)), (xa, .inl (dA 0, 60, .inl tx)), (ta, .inl (dA 0, 3, .inl td))] H := hP
                    have hD : va_D A [(m0, .inr (4, [.ref sa, .ref pa, .ref ha, .int (nI ((chP v4 ps))), .int v4, .ref xa, .int v6, .int v7, .int v8, .int v9, .int v10, .int v11, .int v12, .ref ta])), (sa, .inl (dA 0, 718, .inl (upd (proA f b) ((15 - (3 * b)) + 0) (nI (if rcN f (1 - b) ≤ apN f b then rcN f (1 - b) else apN f b))))), (pa, .inl (dA 0, 2872, .inl (chG v4 f g ps))), (ha, .inl (dA 0, 718, .inl h)), (xa, .inl (dA 0, 60, .inl tx)), (ta, .inl (dA 0, 3, .inl td))] := hD
                    refine lv_aload_n hx hb dX4_promote_169 rfl (lv_at hl 4 rfl) ?_
                    refine lv_iconst (v := nI (1)) hx hb dX4_promote_170 (by decide) ?_
                    refine lv_iload_n hx hb dX4_promote_171 rfl (lv_at hl 5 rfl) ?_
                    refine lv_isub hx hb dX4_promote_172 ?_
                    refine lv_tope (y := nI (1 - b)) (pk_sub (by omega)) ?_
                    refine lv_iload_n hx hb dX4_promote_173 rfl (lv_at hl 2 rfl) ?_
                    refine z_cVv (As := [.int (nI (1 - b)), .int (nI (apN f b))]) (rest := []) ⟨hx, hb, hml, hown, hts⟩ (mX4_fillsGaps l D dA ad A H.size m0 sa pa ha xa ta v4 v6 v7 v8 v9 v10 v11 v12 (upd (proA f b) ((15 - (3 * b)) + 0) (nI (if rcN f (1 - b) ≤ apN f b then rcN f (1 - b) else apN f b))) (chP v4 ps) (chG v4 f g ps) h tx td (1 - b) (apN f b) (hA_up hA hS) (by omega) (by omega) (hD.sub [0, 1, 2, 3, 4, 5] (by decide) rfl)) (cwV 2 hts (lw_V q1440 q1442 qs33 q67 q1443) rfl rfl rfl (by decide +kernel) ⟨Nat.le_of_ble_eq_true rfl, Nat.le_of_ble_eq_true rfl⟩) hC hS (fun _ h => h) (hP.sub (ws' := [(m0, .inr (4, [.ref sa, .ref pa, .ref ha, .int (nI ((chP v4 ps))), .int v4, .ref xa, .int v6, .int v7, .int v8, .int v9, .int v10, .int v11, .int v12, .ref ta])), (sa, .inl (dA 0, 718, .inl (upd (proA f b) ((15 - (3 * b)) + 0) (nI (if rcN f (1 - b) ≤ apN f b then rcN f (1 - b) else apN f b))))), (pa, .inl (dA 0, 2872, .inl (chG v4 f g ps))), (ha, .inl (dA 0, 718, .inl h)), (xa, .inl (dA 0, 60, .inl tx)), (ta, .inl (dA 0, 3, .inl td))]) [0, 1, 2, 3, 4, 5] rfl) (va_recv hK hP (ci := 4) (q0 := 0) rfl rfl) rfl rfl hl.1 (Nat.le_of_ble_eq_true rfl) dX4_promote_174 ⟨Nat.le_of_ble_eq_true rfl, Nat.le_of_ble_eq_true rfl⟩ (fun H locs hQ hF hS => ?_)
                    obtain ⟨hQ, hP⟩ := hQ
                    have hD := va_D.same (ws' := [(m0, .inr (4, [.ref sa, .ref pa, .ref ha, .int (nI ((chP v4 ps))), .int v4, .ref xa, .int v6, .int v7, .int v8, .int v9, .int v10, .int v11, .int v12, .ref ta])), (sa, .inl (dA 0, 718, .inl (fillG (upd (proA f b) ((15 - (3 * b)) + 0) (nI (if rcN f (1 - b) ≤ apN f b then rcN f (1 - b) else apN f b))) (1 - b) (apN f b)))), (pa, .inl (dA 0, 2872, .inl (chG v4 f g ps))), (ha, .inl (dA 0, 718, .inl h)), (xa, .inl (dA 0, 60, .inl tx)), (ta, .inl (dA 0, 3, .inl td))]) (hD.sub (ws' := [(m0, .inr (4, [.ref sa, .ref pa, .ref ha, .int (nI ((chP v4 ps))), .int v4, .ref xa, .int v6, .int v7, .int v8, .int v9, .int v10, .int v11, .int v12, .ref ta])), (sa, .inl (dA 0, 718, .inl (upd (proA f b) ((15 - (3 * b)) + 0) (nI (if rcN f (1 - b) ≤ apN f b then rcN f (1 - b) else apN f b))))), (pa, .inl (dA 0, 2872, .inl (chG v4 f g ps))), (ha, .inl (dA 0, 718, .inl h)), (xa, .inl (dA 0, 60, .inl tx)), (ta, .inl (dA 0, 3, .inl td))]) [0, 1, 2, 3, 4, 5] (by decide) rfl) rfl
                    have hP : va_P D vwCl [(m0, .inr (4, [.ref sa, .ref pa, .ref ha, .int (nI ((chP v4 ps))), .int v4, .ref xa, .int v6, .int v7, .int v8, .int v9, .int v10, .int v11, .int v12, .ref ta])), (sa, .inl (dA 0, 718, .inl (fillG (upd (proA f b) ((15 - (3 * b)) + 0) (nI (if rcN f (1 - b) ≤ apN f b then rcN f (1 - b) else apN f b))) (1 - b) (apN f b)))), (pa, .inl (dA 0, 2872, .inl (chG v4 f g ps))), (ha, .inl (dA 0, 718, .inl h)), (xa, .inl (dA 0, 60, .inl tx)), (ta, .inl (dA 0, 3, .inl td))] H := hP
                    have hD : va_D A [(m0, .inr (4, [.ref sa, .ref pa, .ref ha, .int (nI ((chP v4 ps))), .int v4, .ref xa, .int v6, .int v7, .int v8, .int v9, .int v10, .int v11, .int v12, .ref ta])), (sa, .inl (dA 0, 718, .inl (fillG (upd (proA f b) ((15 - (3 * b)) + 0) (nI (if rcN f (1 - b) ≤ apN f b then rcN f (1 - b) else apN f b))) (1 - b) (apN f b)))), (pa, .inl (dA 0, 2872, .inl (chG v4 f g ps))), (ha, .inl (dA 0, 718, .inl h)), (xa, .inl (dA 0, 60, .inl tx)), (ta, .inl (dA 0, 3, .inl td))] := hD
                    rw [show (fillG (upd (proA f b) ((15 - (3 * b)) + 0) (nI (if rcN f (1 - b) ≤ apN f b then rcN f (1 - b) else apN f b))) (1 - b) (apN f b) : Nat → Int32) = proB (proA f b) (1 - b) (apN f b) from by unfold proB; rw [rcN_proA h1, show 12 + 3 * (1 - b) + 0 = 15 - 3 * b + 0 by omega]] at hP hD
                    refine lv_aload_n hx hb dX4_promote_177 rfl (lv_at hl 4 rfl) ?_
                    refine va_get (D := D) (ci := 4) (v := .ref sa) (C := RX4) (T := TX4) (N := 14) hx hb hts in_X4 hown hK hP 0 rfl rfl 0 (by decide) (hts _ q1329) (fun _ h9 => h9) rfl dX4_promote_178 ?_
                    refine lv_iload hx hb dX4_promote_181 (lv_at hl 0 rfl) ?_
                    refine lv_iconst (v := nI (1)) hx hb dX4_promote_183 (by decide) ?_
                    refine lv_iadd hx hb dX4_promote_184 ?_
                    refine lv_tope (y := nI ((15 - (3 * b)) + 1)) (nI_add _ _) ?_
                    refine va_iald hx hb hK hP 1 0 rfl rfl (vp_in_nI (by omega) (by omega)) dX4_promote_185 ?_
                    refine lv_tope (y := (proB (proA f b) (1 - b) (apN f b)) ((15 - (3 * b)) + 1)) (by rw [nI_clamp (by omega)]) ?_
                    refine lv_tope (y := nI (apN f (1 - b))) (by rw [proB_o h1 (by omega) (by omega), proA_o h1 (by omega), ← sbf_o f h1]; exact hap2) ?_
                    refine lv_iload_n hx hb dX4_promote_186 rfl (lv_at hl 2 rfl) ?_
                    refine lv_icmp_le (tgt := 210) hx hb dX4_promote_187 (by decide) (fun c_19 => ?_) (fun c_19 => ?_)
                    · have c_19 := (nI_leI (by omega) (by omega)).1 c_19
                      rw [show (proB (proA f b) (1 - b) (apN f b) : Nat → Int32) = proF f b from by unfold proF proC; rw [apN_proB h1]; rw [if_pos (by omega)]] at hP hD
                      refine lv_iload_n hx hb dX4_promote_210 rfl (lv_at hl 3 rfl) ?_
                      exact z_iret (v := nI (lost f b)) hx hb hr hS (by rw [show oPromote f (nI (b)) = (true, nI (lost f b), proF f b) from by unfold oPromote; simp only [nI_clamp (show b < 2 ^ 31 by omega)]; (repeat' split) <;> first | rfl | contradiction | (exfalso; simp_all; done)]; exact ⟨rfl, hP⟩) (by omega) (by omega) dX4_promote_211
                    · have c_19 := mt (nI_leI (by omega) (by omega)).2 c_19
                      refine lv_aload_n hx hb dX4_promote_190 rfl (lv_at hl 4 rfl) ?_
                      refine va_get (D := D) (ci := 4) (v := .ref sa) (C := RX4) (T := TX4) (N := 14) hx hb hts in_X4 hown hK hP 0 rfl rfl 0 (by decide) (hts _ q1329) (fun _ h9 => h9) rfl dX4_promote_191 ?_
                      refine lv_iload hx hb dX4_promote_194 (lv_at hl 0 rfl) ?_
                      refine lv_iconst (v := nI (1)) hx hb dX4_promote_196 (by decide) ?_
                      refine lv_iadd hx hb dX4_promote_197 ?_
                      refine lv_tope (y := nI ((15 - (3 * b)) + 1)) (nI_add _ _) ?_
                      refine lv_iload_n hx hb dX4_promote_198 rfl (lv_at hl 2 rfl) ?_
                      refine va_iast hx hb hK hP hD hS 1 0 rfl rfl (vp_in_nI (by omega) (by omega)) dX4_promote_199 (fun H locs hP hD hS => ?_)
                      rw [nI_clamp (by omega)] at hP hD
                      have hP : va_P D vwCl [(m0, .inr (4, [.ref sa, .ref pa, .ref ha, .int (nI ((chP v4 ps))), .int v4, .ref xa, .int v6, .int v7, .int v8, .int v9, .int v10, .int v11, .int v12, .ref ta])), (sa, .inl (dA 0, 718, .inl (upd (proB (proA f b) (1 - b) (apN f b)) ((15 - (3 * b)) + 1) (nI (apN f b))))), (pa, .inl (dA 0, 2872, .inl (chG v4 f g ps))), (ha, .inl (dA 0, 718, .inl h)), (xa, .inl (dA 0, 60, .inl tx)), (ta, .inl (dA 0, 3, .inl td))] H := hP
                      have hD : va_D A [(m0, .inr (4, [.ref sa, .ref pa, .ref ha, .int (nI ((chP v4 ps))), .int v4, .ref xa, .int v6, .int v7, .int v8, .int v9, .int v10, .int v11, .int v12, .ref ta])), (sa, .inl (dA 0, 718, .inl (upd (proB (proA f b) (1 - b) (apN f b)) ((15 - (3 * b)) + 1) (nI (apN f b))))), (pa, .inl (dA 0, 2872, .inl (chG v4 f g ps))), (ha, .inl (dA 0, 718, .inl h)), (xa, .inl (dA 0, 60, .inl tx)), (ta, .inl (dA 0, 3, .inl td))] := hD
                      refine lv_aload_n hx hb dX4_promote_200 rfl (lv_at hl 4 rfl) ?_
                      refine va_get (D := D) (ci := 4) (v := .ref sa) (C := RX4) (T := TX4) (N := 14) hx hb hts in_X4 hown hK hP 0 rfl rfl 0 (by decide) (hts _ q1329) (fun _ h9 => h9) rfl dX4_promote_201 ?_
                      refine lv_iload hx hb dX4_promote_204 (lv_at hl 0 rfl) ?_
                      refine lv_iconst (v := nI (2)) hx hb dX4_promote_206 (by decide) ?_
                      refine lv_iadd hx hb dX4_promote_207 ?_
                      refine lv_tope (y := nI ((15 - (3 * b)) + 2)) (nI_add _ _) ?_
                      refine lv_iconst (v := nI (1)) hx hb dX4_promote_208 (by decide) ?_
                      refine va_iast hx hb hK hP hD hS 1 0 rfl rfl (vp_in_nI (by omega) (by omega)) dX4_promote_209 (fun H locs hP hD hS => ?_)
                      rw [nI_clamp (by omega)] at hP hD
                      have hP : va_P D vwCl [(m0, .inr (4, [.ref sa, .ref pa, .ref ha, .int (nI ((chP v4 ps))), .int v4, .ref xa, .int v6, .int v7, .int v8, .int v9, .int v10, .int v11, .int v12, .ref ta])), (sa, .inl (dA 0, 718, .inl (upd (upd (proB (proA f b) (1 - b) (apN f b)) ((15 - (3 * b)) + 1) (nI (apN f b))) ((15 - (3 * b)) + 2) (nI (1))))), (pa, .inl (dA 0, 2872, .inl (chG v4 f g ps))), (ha, .inl (dA 0, 718, .inl h)), (xa, .inl (dA 0, 60, .inl tx)), (ta, .inl (dA 0, 3, .inl td))] H := hP
                      have hD : va_D A [(m0, .inr (4, [.ref sa, .ref pa, .ref ha, .int (nI ((chP v4 ps))), .int v4, .ref xa, .int v6, .int v7, .int v8, .int v9, .int v10, .int v11, .int v12, .ref ta])), (sa, .inl (dA 0, 718, .inl (upd (upd (proB (proA f b) (1 - b) (apN f b)) ((15 - (3 * b)) + 1) (nI (apN f b))) ((15 - (3 * b)) + 2) (nI (1))))), (pa, .inl (dA 0, 2872, .inl (chG v4 f g ps))), (ha, .inl (dA 0, 718, .inl h)), (xa, .inl (dA 0, 60, .inl tx)), (ta, .inl (dA 0, 3, .inl td))] := hD
                      rw [show (upd (upd (proB (proA f b) (1 - b) (apN f b)) ((15 - (3 * b)) + 1) (nI (apN f b))) ((15 - (3 * b)) + 2) (nI (1)) : Nat → Int32) = proF f b from by unfold proF proC; rw [apN_proB h1]; rw [if_neg (by omega), show 12 + 3 * (1 - b) = 15 - 3 * b by omega]] at hP hD
                      refine lv_iload_n hx hb dX4_promote_210 rfl (lv_at hl 3 rfl) ?_
                      exact z_iret (v := nI (lost f b)) hx hb hr hS (by rw [show oPromote f (nI (b)) = (true, nI (lost f b), proF f b) from by unfold oPromote; simp only [nI_clamp (show b < 2 ^ 31 by omega)]; (repeat' split) <;> first | rfl | contradiction | (exfalso; simp_all; done)]; exact ⟨rfl, hP⟩) (by omega) (by omega) dX4_promote_211
                · exact absurd c_13 (by decide)
              · exact absurd c_12 (by decide)
      · have c_8 := mt (nI_leI (by omega) (by omega)).2 c_8
        refine lv_iconst (v := nI (1)) hx hb dX4_promote_50 (by decide) ?_
        refine lv_goto (tgt := 55) hx hb dX4_promote_51 (by decide) ?_
        refine lv_istore (lv' := [(4, .int (nI (1))), (3, .int (nI (apN f b))), (2, .int (nI (lost f b))), (0, .ref m0), (1, .int (nI (b)))]) hx hb dX4_promote_55 hl (by decide) rfl (fun ls hl => ?_)
        refine lv_aload_n hx hb dX4_promote_57 rfl (lv_at hl 3 rfl) ?_
        refine va_get (D := D) (ci := 4) (v := .ref sa) (C := RX4) (T := TX4) (N := 14) hx hb hts in_X4 hown hK hP 0 rfl rfl 0 (by decide) (hts _ q1329) (fun _ h9 => h9) rfl dX4_promote_58 ?_
        refine lv_iconst (v := nI (0)) hx hb dX4_promote_61 (by decide) ?_
        refine lv_iload_n hx hb dX4_promote_62 rfl (lv_at hl 1 rfl) ?_
        refine va_iast hx hb hK hP hD hS 1 0 rfl rfl (vp_in_nI (by omega) (by omega)) dX4_promote_63 (fun H locs hP hD hS => ?_)
        rw [nI_clamp (by omega)] at hP hD
        have hP : va_P D vwCl [(m0, .inr (4, [.ref sa, .ref pa, .ref ha, .int (nI (chP v4 ps)), .int v4, .ref xa, .int v6, .int v7, .int v8, .int v9, .int v10, .int v11, .int v12, .ref ta])), (sa, .inl (dA 0, 718, .inl (upd f 0 (nI (apN f b))))), (pa, .inl (dA 0, 2872, .inl (chG v4 f g ps))), (ha, .inl (dA 0, 718, .inl h)), (xa, .inl (dA 0, 60, .inl tx)), (ta, .inl (dA 0, 3, .inl td))] H := hP
        have hD : va_D A [(m0, .inr (4, [.ref sa, .ref pa, .ref ha, .int (nI (chP v4 ps)), .int v4, .ref xa, .int v6, .int v7, .int v8, .int v9, .int v10, .int v11, .int v12, .ref ta])), (sa, .inl (dA 0, 718, .inl (upd f 0 (nI (apN f b))))), (pa, .inl (dA 0, 2872, .inl (chG v4 f g ps))), (ha, .inl (dA 0, 718, .inl h)), (xa, .inl (dA 0, 60, .inl tx)), (ta, .inl (dA 0, 3, .inl td))] := hD
        refine lv_aload_n hx hb dX4_promote_64 rfl (lv_at hl 3 rfl) ?_
        refine va_get (D := D) (ci := 4) (v := .ref sa) (C := RX4) (T := TX4) (N := 14) hx hb hts in_X4 hown hK hP 0 rfl rfl 0 (by decide) (hts _ q1329) (fun _ h9 => h9) rfl dX4_promote_65 ?_
        refine lv_iconst (v := nI (4)) hx hb dX4_promote_68 (by decide) ?_
        refine lv_dup2_11 hx hb dX4_promote_69 rfl rfl ?_
        refine va_iald hx hb hK hP 1 0 rfl rfl (vp_in_nI (by omega) (by omega)) dX4_promote_70 ?_
        refine lv_tope (y := (upd f 0 (nI (apN f b))) 4) (by rw [nI_clamp (by omega)]) ?_
        refine lv_tope (y := f 4) (by simp only [upd]; repeat (first | rw [if_neg (by omega)] | rw [if_pos (by omega)])) ?_
        refine lv_iload_n hx hb dX4_promote_71 rfl (lv_at hl 2 rfl) ?_
        refine lv_iadd hx hb dX4_promote_72 ?_
        refine va_iast hx hb hK hP hD hS 1 0 rfl rfl (vp_in_nI (by omega) (by omega)) dX4_promote_73 (fun H locs hP hD hS => ?_)
        rw [nI_clamp (by omega)] at hP hD
        have hP : va_P D vwCl [(m0, .inr (4, [.ref sa, .ref pa, .ref ha, .int (nI (chP v4 ps)), .int v4, .ref xa, .int v6, .int v7, .int v8, .int v9, .int v10, .int v11, .int v12, .ref ta])), (sa, .inl (dA 0, 718, .inl (upd (upd f 0 (nI (apN f b))) 4 ((f 4) + (nI (lost f b)))))), (pa, .inl (dA 0, 2872, .inl (chG v4 f g ps))), (ha, .inl (dA 0, 718, .inl h)), (xa, .inl (dA 0, 60, .inl tx)), (ta, .inl (dA 0, 3, .inl td))] H := hP
        have hD : va_D A [(m0, .inr (4, [.ref sa, .ref pa, .ref ha, .int (nI (chP v4 ps)), .int v4, .ref xa, .int v6, .int v7, .int v8, .int v9, .int v10, .int v11, .int v12, .ref ta])), (sa, .inl (dA 0, 718, .inl (upd (upd f 0 (nI (apN f b))) 4 ((f 4) + (nI (lost f b)))))), (pa, .inl (dA 0, 2872, .inl (chG v4 f g ps))), (ha, .inl (dA 0, 718, .inl h)), (xa, .inl (dA 0, 60, .inl tx)), (ta, .inl (dA 0, 3, .inl td))] := hD
        refine lv_aload_n hx hb dX4_promote_74 rfl (lv_at hl 3 rfl) ?_
        refine va_get (D := D) (ci := 4) (v := .ref sa) (C := RX4) (T := TX4) (N := 14) hx hb hts in_X4 hown hK hP 0 rfl rfl 0 (by decide) (hts _ q1329) (fun _ h9 => h9) rfl dX4_promote_75 ?_
        refine lv_iconst (v := nI (2)) hx hb dX4_promote_78 (by decide) ?_
        refine lv_dup2_11 hx hb dX4_promote_79 rfl rfl ?_
        refine va_iald hx hb hK hP 1 0 rfl rfl (vp_in_nI (by omega) (by omega)) dX4_promote_80 ?_
        refine lv_tope (y := (upd (upd f 0 (nI (apN f b))) 4 ((f 4) + (nI (lost f b)))) 2) (by rw [nI_clamp (by omega)]) ?_
        refine lv_tope (y := f 2) (by simp only [upd]; repeat (first | rw [if_neg (by omega)] | rw [if_pos (by omega)])) ?_
        refine lv_iconst (v := nI (1)) hx hb dX4_promote_81 (by decide) ?_
        refine lv_iadd hx hb dX4_promote_82 ?_
        refine va_iast hx hb hK hP hD hS 1 0 rfl rfl (vp_in_nI (by omega) (by omega)) dX4_promote_83 (fun H locs hP hD hS => ?_)
        rw [nI_clamp (by omega)] at hP hD
        have hP : va_P D vwCl [(m0, .inr (4, [.ref sa, .ref pa, .ref ha, .int (nI (chP v4 ps)), .int v4, .ref xa, .int v6, .int v7, .int v8, .int v9, .int v10, .int v11, .int v12, .ref ta])), (sa, .inl (dA 0, 718, .inl (upd (upd (upd f 0 (nI (apN f b))) 4 ((f 4) + (nI (lost f b)))) 2 ((f 2) + (nI (1)))))), (pa, .inl (dA 0, 2872, .inl (chG v4 f g ps))), (ha, .inl (dA 0, 718, .inl h)), (xa, .inl (dA 0, 60, .inl tx)), (ta, .inl (dA 0, 3, .inl td))] H := hP
        have hD : va_D A [(m0, .inr (4, [.ref sa, .ref pa, .ref ha, .int (nI (chP v4 ps)), .int v4, .ref xa, .int v6, .int v7, .int v8, .int v9, .int v10, .int v11, .int v12, .ref ta])), (sa, .inl (dA 0, 718, .inl (upd (upd (upd f 0 (nI (apN f b))) 4 ((f 4) + (nI (lost f b)))) 2 ((f 2) + (nI (1)))))), (pa, .inl (dA 0, 2872, .inl (chG v4 f g ps))), (ha, .inl (dA 0, 718, .inl h)), (xa, .inl (dA 0, 60, .inl tx)), (ta, .inl (dA 0, 3, .inl td))] := hD
        refine lv_iconst (v := nI (0)) hx hb dX4_promote_84 (by decide) ?_
        refine lv_istore (lv' := [(5, .int (nI (0))), (4, .int (nI (1))), (3, .int (nI (apN f b))), (2, .int (nI (lost f b))), (0, .ref m0), (1, .int (nI (b)))]) hx hb dX4_promote_85 hl (by decide) rfl (fun ls hl => ?_)
        refine lv_iload hx hb dX4_promote_87 (lv_at hl 0 rfl) ?_
        refine lv_iconst (v := nI (3)) hx hb dX4_promote_89 (by decide) ?_
        refine lv_icmp_ge (tgt := 110) hx hb dX4_promote_90 (by decide) (fun c_20 => ?_) (fun c_20 => ?_)
        · exact absurd c_20 (by decide)
        · refine lv_aload_n hx hb dX4_promote_93 rfl (lv_at hl 4 rfl) ?_
          refine va_get (D := D) (ci := 4) (v := .ref sa) (C := RX4) (T := TX4) (N := 14) hx hb hts in_X4 hown hK hP 0 rfl rfl 0 (by decide) (hts _ q1329) (fun _ h9 => h9) rfl dX4_promote_94 ?_
          refine lv_bipush (v := nI (9)) hx hb dX4_promote_97 (by decide) ?_
          refine lv_iload hx hb dX4_promote_99 (lv_at hl 0 rfl) ?_
          refine lv_iadd hx hb dX4_promote_101 ?_
          refine lv_tope (y := nI (9)) (by decide) ?_
          refine lv_iconst (v := nI (0)) hx hb dX4_promote_102 (by decide) ?_
          refine va_iast hx hb hK hP hD hS 1 0 rfl rfl (vp_in_nI (by omega) (by omega)) dX4_promote_103 (fun H locs hP hD hS => ?_)
          rw [nI_clamp (by omega)] at hP hD
          have hP : va_P D vwCl [(m0, .inr (4, [.ref sa, .ref pa, .ref ha, .int (nI (chP v4 ps)), .int v4, .ref xa, .int v6, .int v7, .int v8, .int v9, .int v10, .int v11, .int v12, .ref ta])), (sa, .inl (dA 0, 718, .inl (upd (upd (upd (upd f 0 (nI (apN f b))) 4 ((f 4) + (nI (lost f b)))) 2 ((f 2) + (nI (1)))) 9 (nI (0))))), (pa, .inl (dA 0, 2872, .inl (chG v4 f g ps))), (ha, .inl (dA 0, 718, .inl h)), (xa, .inl (dA 0, 60, .inl tx)), (ta, .inl (dA 0, 3, .inl td))] H := hP
          have hD : va_D A [(m0, .inr (4, [.ref sa, .ref pa, .ref ha, .int (nI (chP v4 ps)), .int v4, .ref xa, .int v6, .int v7, .int v8, .int v9, .int v10, .int v11, .int v12, .ref ta])), (sa, .inl (dA 0, 718, .inl (upd (upd (upd (upd f 0 (nI (apN f b))) 4 ((f 4) + (nI (lost f b)))) 2 ((f 2) + (nI (1)))) 9 (nI (0))))), (pa, .inl (dA 0, 2872, .inl (chG v4 f g ps))), (ha, .inl (dA 0, 718, .inl h)), (xa, .inl (dA 0, 60, .inl tx)), (ta, .inl (dA 0, 3, .inl td))] := hD
          refine lv_iinc (v := nI (1)) (lv' := [(5, .int (nI (1))), (4, .int (nI (1))), (3, .int (nI (apN f b))), (2, .int (nI (lost f b))), (0, .ref m0), (1, .int (nI (b)))]) hx hb dX4_promote_104 hl (k := 0) rfl (by decide) (by decide) rfl (fun ls hl => ?_)
          refine lv_goto (tgt := 87) hx hb dX4_promote_107 (by decide) ?_
          refine lv_iload hx hb dX4_promote_87 (lv_at hl 0 rfl) ?_
          refine lv_iconst (v := nI (3)) hx hb dX4_promote_89 (by decide) ?_
          refine lv_icmp_ge (tgt := 110) hx hb dX4_promote_90 (by decide) (fun c_21 => ?_) (fun c_21 => ?_)
          · exact absurd c_21 (by decide)
          · refine lv_aload_n hx hb dX4_promote_93 rfl (lv_at hl 4 rfl) ?_
            refine va_get (D := D) (ci := 4) (v := .ref sa) (C := RX4) (T := TX4) (N := 14) hx hb hts in_X4 hown hK hP 0 rfl rfl 0 (by decide) (hts _ q1329) (fun _ h9 => h9) rfl dX4_promote_94 ?_
            refine lv_bipush (v := nI (9)) hx hb dX4_promote_97 (by decide) ?_
            refine lv_iload hx hb dX4_promote_99 (lv_at hl 0 rfl) ?_
            refine lv_iadd hx hb dX4_promote_101 ?_
            refine lv_tope (y := nI (10)) (by decide) ?_
            refine lv_iconst (v := nI (0)) hx hb dX4_promote_102 (by decide) ?_
            refine va_iast hx hb hK hP hD hS 1 0 rfl rfl (vp_in_nI (by omega) (by omega)) dX4_promote_103 (fun H locs hP hD hS => ?_)
            rw [nI_clamp (by omega)] at hP hD
            have hP : va_P D vwCl [(m0, .inr (4, [.ref sa, .ref pa, .ref ha, .int (nI (chP v4 ps)), .int v4, .ref xa, .int v6, .int v7, .int v8, .int v9, .int v10, .int v11, .int v12, .ref ta])), (sa, .inl (dA 0, 718, .inl (upd (upd (upd (upd (upd f 0 (nI (apN f b))) 4 ((f 4) + (nI (lost f b)))) 2 ((f 2) + (nI (1)))) 9 (nI (0))) 10 (nI (0))))), (pa, .inl (dA 0, 2872, .inl (chG v4 f g ps))), (ha, .inl (dA 0, 718, .inl h)), (xa, .inl (dA 0, 60, .inl tx)), (ta, .inl (dA 0, 3, .inl td))] H := hP
            have hD : va_D A [(m0, .inr (4, [.ref sa, .ref pa, .ref ha, .int (nI (chP v4 ps)), .int v4, .ref xa, .int v6, .int v7, .int v8, .int v9, .int v10, .int v11, .int v12, .ref ta])), (sa, .inl (dA 0, 718, .inl (upd (upd (upd (upd (upd f 0 (nI (apN f b))) 4 ((f 4) + (nI (lost f b)))) 2 ((f 2) + (nI (1)))) 9 (nI (0))) 10 (nI (0))))), (pa, .inl (dA 0, 2872, .inl (chG v4 f g ps))), (ha, .inl (dA 0, 718, .inl h)), (xa, .inl (dA 0, 60, .inl tx)), (ta, .inl (dA 0, 3, .inl td))] := hD
            refine lv_iinc (v := nI (2)) (lv' := [(5, .int (nI (2))), (4, .int (nI (1))), (3, .int (nI (apN f b))), (2, .int (nI (lost f b))), (0, .ref m0), (1, .int (nI (b)))]) hx hb dX4_promote_104 hl (k := 0) rfl (by decide) (by decide) rfl (fun ls hl => ?_)
            refine lv_goto (tgt := 87) hx hb dX4_promote_107 (by decide) ?_
            refine lv_iload hx hb dX4_promote_87 (lv_at hl 0 rfl) ?_
            refine lv_iconst (v := nI (3)) hx hb dX4_promote_89 (by decide) ?_
            refine lv_icmp_ge (tgt := 110) hx hb dX4_promote_90 (by decide) (fun c_22 => ?_) (fun c_22 => ?_)
            · exact absurd c_22 (by decide)
            · refine lv_aload_n hx hb dX4_promote_93 rfl (lv_at hl 4 rfl) ?_
              refine va_get (D := D) (ci := 4) (v := .ref sa) (C := RX4) (T := TX4) (N := 14) hx hb hts in_X4 hown hK hP 0 rfl rfl 0 (by decide) (hts _ q1329) (fun _ h9 => h9) rfl dX4_promote_94 ?_
              refine lv_bipush (v := nI (9)) hx hb dX4_promote_97 (by decide) ?_
              refine lv_iload hx hb dX4_promote_99 (lv_at hl 0 rfl) ?_
              refine lv_iadd hx hb dX4_promote_101 ?_
              refine lv_tope (y := nI (11)) (by decide) ?_
              refine lv_iconst (v := nI (0)) hx hb dX4_promote_102 (by decide) ?_
              refine va_iast hx hb hK hP hD hS 1 0 rfl rfl (vp_in_nI (by omega) (by omega)) dX4_promote_103 (fun H locs hP hD hS => ?_)
              rw [nI_clamp (by omega)] at hP hD
              have hP : va_P D vwCl [(m0, .inr (4, [.ref sa, .ref pa, .ref ha, .int (nI (chP v4 ps)), .int v4, .ref xa, .int v6, .int v7, .int v8, .int v9, .int v10, .int v11, .int v12, .ref ta])), (sa, .inl (dA 0, 718, .inl (upd (upd (upd (upd (upd (upd f 0 (nI (apN f b))) 4 ((f 4) + (nI (lost f b)))) 2 ((f 2) + (nI (1)))) 9 (nI (0))) 10 (nI (0))) 11 (nI (0))))), (pa, .inl (dA 0, 2872, .inl (chG v4 f g ps))), (ha, .inl (dA 0, 718, .inl h)), (xa, .inl (dA 0, 60, .inl tx)), (ta, .inl (dA 0, 3, .inl td))] H := hP
              have hD : va_D A [(m0, .inr (4, [.ref sa, .ref pa, .ref ha, .int (nI (chP v4 ps)), .int v4, .ref xa, .int v6, .int v7, .int v8, .int v9, .int v10, .int v11, .int v12, .ref ta])), (sa, .inl (dA 0, 718, .inl (upd (upd (upd (upd (upd (upd f 0 (nI (apN f b))) 4 ((f 4) + (nI (lost f b)))) 2 ((f 2) + (nI (1)))) 9 (nI (0))) 10 (nI (0))) 11 (nI (0))))), (pa, .inl (dA 0, 2872, .inl (chG v4 f g ps))), (ha, .inl (dA 0, 718, .inl h)), (xa, .inl (dA 0, 60, .inl tx)), (ta, .inl (dA 0, 3, .inl td))] := hD
              refine lv_iinc (v := nI (3)) (lv' := [(5, .int (nI (3))), (4, .int (nI (1))), (3, .int (nI (apN f b))), (2, .int (nI (lost f b))), (0, .ref m0), (1, .int (nI (b)))]) hx hb dX4_promote_104 hl (k := 0) rfl (by decide) (by decide) rfl (fun ls hl => ?_)
              refine lv_goto (tgt := 87) hx hb dX4_promote_107 (by decide) ?_
              refine lv_iload hx hb dX4_promote_87 (lv_at hl 0 rfl) ?_
              refine lv_iconst (v := nI (3)) hx hb dX4_promote_89 (by decide) ?_
              refine lv_icmp_ge (tgt := 110) hx hb dX4_promote_90 (by decide) (fun c_23 => ?_) (fun c_23 => ?_)
              · refine lv_aload_n hx hb dX4_promote_110 rfl (lv_at hl 4 rfl) ?_
                refine lv_iload_n hx hb dX4_promote_111 rfl (lv_at hl 5 rfl) ?_
                refine lv_iload_n hx hb dX4_promote_112 rfl (lv_at hl 2 rfl) ?_
                refine lv_iload hx hb dX4_promote_113 (lv_at hl 1 rfl) ?_
                refine lv_if_eq (tgt := 122) hx hb dX4_promote_115 (by decide) (fun c_24 => ?_) (fun c_24 => ?_)
                · exact absurd c_24 (by decide)
                · refine lv_iconst (v := nI (1)) hx hb dX4_promote_118 (by decide) ?_
                  refine lv_goto (tgt := 123) hx hb dX4_promote_119 (by decide) ?_
                  refine lv_tope (y := nI (if apN f b < rN f then 1 else 0)) (by first | rw [if_pos (by omega)] | rw [if_neg (by omega)]) ?_
                  refine z_cVv (As := [.int (nI (b)), .int (nI (apN f b)), .int (nI (if apN f b < rN f then 1 else 0))]) (rest := []) ⟨hx, hb, hml, hown, hts⟩ (mX4_lays l D dA ad A H.size m0 sa pa ha xa ta v4 v6 v7 v8 v9 v10 v11 v12 (upd (upd (upd (upd (upd (upd f 0 (nI (apN f b))) 4 ((f 4) + (nI (lost f b)))) 2 ((f 2) + (nI (1)))) 9 (nI (0))) 10 (nI (0))) 11 (nI (0))) (chP v4 ps) (chG v4 f g ps) h tx td b (apN f b) (nI (if apN f b < rN f then 1 else 0)) (hA_up hA hS) (by omega) (hD.sub [0, 1, 2, 3, 4, 5] (by decide) rfl)) (cwV 3 hts (lw_V q1468 q1470 qs38 q67 q1471) rfl rfl rfl (by decide +kernel) ⟨Nat.le_of_ble_eq_true rfl, Nat.le_of_ble_eq_true rfl⟩) hC hS (fun _ h => h) (hP.sub (ws' := [(m0, .inr (4, [.ref sa, .ref pa, .ref ha, .int (nI (chP v4 ps)), .int v4, .ref xa, .int v6, .int v7, .int v8, .int v9, .int v10, .int v11, .int v12, .ref ta])), (sa, .inl (dA 0, 718, .inl (upd (upd (upd (upd (upd (upd f 0 (nI (apN f b))) 4 ((f 4) + (nI (lost f b)))) 2 ((f 2) + (nI (1)))) 9 (nI (0))) 10 (nI (0))) 11 (nI (0))))), (pa, .inl (dA 0, 2872, .inl (chG v4 f g ps))), (ha, .inl (dA 0, 718, .inl h)), (xa, .inl (dA 0, 60, .inl tx)), (ta, .inl (dA 0, 3, .inl td))]) [0, 1, 2, 3, 4, 5] rfl) (va_recv hK hP (ci := 4) (q0 := 0) rfl rfl) rfl rfl hl.1 (Nat.le_of_ble_eq_true rfl) dX4_promote_123 ⟨Nat.le_of_ble_eq_true rfl, Nat.le_of_ble_eq_true rfl⟩ (fun H locs hQ hF hS => ?_)
                  obtain ⟨hQ, hP⟩ := hQ
                  have hD := va_D.same (ws' := [(m0, .inr (4, [.ref sa, .ref pa, .ref ha, .int (nI ((chP v4 ps))), .int v4, .ref xa, .int v6, .int v7, .int v8, .int v9, .int v10, .int v11, .int v12, .ref ta])), (sa, .inl (dA 0, 718, .inl (laysF (upd (upd (upd (upd (upd (upd f 0 (nI (apN f b))) 4 ((f 4) + (nI (lost f b)))) 2 ((f 2) + (nI (1)))) 9 (nI (0))) 10 (nI (0))) 11 (nI (0))) b (apN f b) (nI (if apN f b < rN f then 1 else 0))))), (pa, .inl (dA 0, 2872, .inl (chG v4 f g ps))), (ha, .inl (dA 0, 718, .inl h)), (xa, .inl (dA 0, 60, .inl tx)), (ta, .inl (dA 0, 3, .inl td))]) (hD.sub (ws' := [(m0, .inr (4, [.ref sa, .ref pa, .ref ha, .int (nI (chP v4 ps)), .int v4, .ref xa, .int v6, .int v7, .int v8, .int v9, .int v10, .int v11, .int v12, .ref ta])), (sa, .inl (dA 0, 718, .inl (upd (upd (upd (upd (upd (upd f 0 (nI (apN f b))) 4 ((f 4) + (nI (lost f b)))) 2 ((f 2) + (nI (1)))) 9 (nI (0))) 10 (nI (0))) 11 (nI (0))))), (pa, .inl (dA 0, 2872, .inl (chG v4 f g ps))), (ha, .inl (dA 0, 718, .inl h)), (xa, .inl (dA 0, 60, .inl tx)), (ta, .inl (dA 0, 3, .inl td))]) [0, 1, 2, 3, 4, 5] (by decide) rfl) rfl
                  have hP : va_P D vwCl [(m0, .inr (4, [.ref sa, .ref pa, .ref ha, .int (nI ((chP v4 ps))), .int v4, .ref xa, .int v6, .int v7, .int v8, .int v9, .int v10, .int v11, .int v12, .ref ta])), (sa, .inl (dA 0, 718, .inl (laysF (upd (upd (upd (upd (upd (upd f 0 (nI (apN f b))) 4 ((f 4) + (nI (lost f b)))) 2 ((f 2) + (nI (1)))) 9 (nI (0))) 10 (nI (0))) 11 (nI (0))) b (apN f b) (nI (if apN f b < rN f then 1 else 0))))), (pa, .inl (dA 0, 2872, .inl (chG v4 f g ps))), (ha, .inl (dA 0, 718, .inl h)), (xa, .inl (dA 0, 60, .inl tx)), (ta, .inl (dA 0, 3, .inl td))] H := hP
                  have hD : va_D A [(m0, .inr (4, [.ref sa, .ref pa, .ref ha, .int (nI ((chP v4 ps))), .int v4, .ref xa, .int v6, .int v7, .int v8, .int v9, .int v10, .int v11, .int v12, .ref ta])), (sa, .inl (dA 0, 718, .inl (laysF (upd (upd (upd (upd (upd (upd f 0 (nI (apN f b))) 4 ((f 4) + (nI (lost f b)))) 2 ((f 2) + (nI (1)))) 9 (nI (0))) 10 (nI (0))) 11 (nI (0))) b (apN f b) (nI (if apN f b < rN f then 1 else 0))))), (pa, .inl (dA 0, 2872, .inl (chG v4 f g ps))), (ha, .inl (dA 0, 718, .inl h)), (xa, .inl (dA 0, 60, .inl tx)), (ta, .inl (dA 0, 3, .inl td))] := hD
                  rw [show (laysF (upd (upd (upd (upd (upd (upd f 0 (nI (apN f b))) 4 ((f 4) + (nI (lost f b)))) 2 ((f 2) + (nI (1)))) 9 (nI (0))) 10 (nI (0))) 11 (nI (0))) b (apN f b) (nI (if apN f b < rN f then 1 else 0)) : Nat → Int32) = proA f b from rfl] at hP hD
                  refine lv_bipush (v := nI (15)) hx hb dX4_promote_126 (by decide) ?_
                  refine lv_iconst (v := nI (3)) hx hb dX4_promote_128 (by decide) ?_
                  refine lv_iload_n hx hb dX4_promote_129 rfl (lv_at hl 5 rfl) ?_
                  refine lv_imul hx hb dX4_promote_130 ?_
                  refine lv_tope (y := nI (3 * b)) (pk_mul _ _) ?_
                  refine lv_isub hx hb dX4_promote_131 ?_
                  refine lv_tope (y := nI (15 - (3 * b))) (pk_sub (by omega)) ?_
                  refine lv_istore (lv' := [(5, .int (nI (15 - (3 * b)))), (4, .int (nI (1))), (3, .int (nI (apN f b))), (2, .int (nI (lost f b))), (0, .ref m0), (1, .int (nI (b)))]) hx hb dX4_promote_132 hl (by decide) rfl (fun ls hl => ?_)
                  refine lv_aload_n hx hb dX4_promote_134 rfl (lv_at hl 4 rfl) ?_
                  refine va_get (D := D) (ci := 4) (v := .ref sa) (C := RX4) (T := TX4) (N := 14) hx hb hts in_X4 hown hK hP 0 rfl rfl 0 (by decide) (hts _ q1329) (fun _ h9 => h9) rfl dX4_promote_135 ?_
                  refine lv_iload hx hb dX4_promote_138 (lv_at hl 0 rfl) ?_
                  refine lv_iconst (v := nI (0)) hx hb dX4_promote_140 (by decide) ?_
                  refine lv_iadd hx hb dX4_promote_141 ?_
                  refine lv_tope (y := nI ((15 - (3 * b)) + 0)) (nI_add _ _) ?_
                  refine lv_aload_n hx hb dX4_promote_142 rfl (lv_at hl 4 rfl) ?_
                  refine va_get (D := D) (ci := 4) (v := .ref sa) (C := RX4) (T := TX4) (N := 14) hx hb hts in_X4 hown hK hP 0 rfl rfl 0 (by decide) (hts _ q1329) (fun _ h9 => h9) rfl dX4_promote_143 ?_
                  refine lv_iload hx hb dX4_promote_146 (lv_at hl 0 rfl) ?_
                  refine lv_iconst (v := nI (0)) hx hb dX4_promote_148 (by decide) ?_
                  refine lv_iadd hx hb dX4_promote_149 ?_
                  refine lv_tope (y := nI ((15 - (3 * b)) + 0)) (nI_add _ _) ?_
                  refine va_iald hx hb hK hP 1 0 rfl rfl (vp_in_nI (by omega) (by omega)) dX4_promote_150 ?_
                  refine lv_tope (y := (proA f b) ((15 - (3 * b)) + 0)) (by rw [nI_clamp (by omega)]) ?_
                  refine lv_tope (y := nI (rcN f (1 - b))) (by rw [proA_o h1 (by omega), ← sbf_o f h1]; exact hrc2) ?_
                  refine lv_iload_n hx hb dX4_promote_151 rfl (lv_at hl 2 rfl) ?_
                  refine lv_icmp_le (tgt := 159) hx hb dX4_promote_152 (by decide) (fun c_26 => ?_) (fun c_26 => ?_)
                  · have c_26 := (nI_leI (by omega) (by omega)).1 c_26
                    refine lv_aload_n hx hb dX4_promote_159 rfl (lv_at hl 4 rfl) ?_
                    refine va_get (D := D) (ci := 4) (v := .ref sa) (C := RX4) (T := TX4) (N := 14) hx hb hts in_X4 hown hK hP 0 rfl rfl 0 (by decide) (hts _ q1329) (fun _ h9 => h9) rfl dX4_promote_160 ?_
                    refine lv_iload hx hb dX4_promote_163 (lv_at hl 0 rfl) ?_
                    refine lv_iconst (v := nI (0)) hx hb dX4_promote_165 (by decide) ?_
                    refine lv_iadd hx hb dX4_promote_166 ?_
                    refine lv_tope (y := nI ((15 - (3 * b)) + 0)) (nI_add _ _) ?_
                    refine va_iald hx hb hK hP 1 0 rfl rfl (vp_in_nI (by omega) (by omega)) dX4_promote_167 ?_
                    refine lv_tope (y := (proA f b) ((15 - (3 * b)) + 0)) (by rw [nI_clamp (by omega)]) ?_
                    refine lv_tope (y := nI (rcN f (1 - b))) (by rw [proA_o h1 (by omega), ← sbf_o f h1]; exact hrc2) ?_
                    refine lv_tope (y := nI (if rcN f (1 - b) ≤ apN f b then rcN f (1 - b) else apN f b)) (by rw [if_pos (by omega)]) ?_
                    refine va_iast hx hb hK hP hD hS 1 0 rfl rfl (vp_in_nI (by omega) (by omega)) dX4_promote_168 (fun H locs hP hD hS => ?_)
                    rw [nI_clamp (by omega)] at hP hD
                    have hP : va_P D vwCl [(m0, .inr (4, [.ref sa, .ref pa, .ref ha, .int (nI ((chP v4 ps))), .int v4, .ref xa, .int v6, .int v7, .int v8, .int v9, .int v10, .int v11, .int v12, .ref ta])), (sa, .inl (dA 0, 718, .inl (upd (proA f b) ((15 - (3 * b)) + 0) (nI (if rcN f (1 - b) ≤ apN f b then rcN f (1 - b) else apN f b))))), (pa, .inl (dA 0, 2872, .inl (chG v4 f g ps))), (ha, .inl (dA 0, 718, .inl h)), (xa, .inl (dA 0, 60, .inl tx)), (ta, .inl (dA 0, 3, .inl td))] H := hP
                    have hD : va_D A [(m0, .inr (4, [.ref sa, .ref pa, .ref ha, .int (nI ((chP v4 ps))), .int v4, .ref xa, .int v6, .int v7, .int v8, .int v9, .int v10, .int v11, .int v12, .ref ta])), (sa, .inl (dA 0, 718, .inl (upd (proA f b) ((15 - (3 * b)) + 0) (nI (if rcN f (1 - b) ≤ apN f b then rcN f (1 - b) else apN f b))))), (pa, .inl (dA 0, 2872, .inl (chG v4 f g ps))), (ha, .inl (dA 0, 718, .inl h)), (xa, .inl (dA 0, 60, .inl tx)), (ta, .inl (dA 0, 3, .inl td))] := hD
                    refine lv_aload_n hx hb dX4_promote_169 rfl (lv_at hl 4 rfl) ?_
                    refine lv_iconst (v := nI (1)) hx hb dX4_promote_170 (by decide) ?_
                    refine lv_iload_n hx hb dX4_promote_171 rfl (lv_at hl 5 rfl) ?_
                    refine lv_isub hx hb dX4_promote_172 ?_
                    refine lv_tope (y := nI (1 - b)) (pk_sub (by omega)) ?_
                    refine lv_iload_n hx hb dX4_promote_173 rfl (lv_at hl 2 rfl) ?_
                    refine z_cVv (As := [.int (nI (1 - b)), .int (nI (apN f b))]) (rest := []) ⟨hx, hb, hml, hown, hts⟩ (mX4_fillsGaps l D dA ad A H.size m0 sa pa ha xa ta v4 v6 v7 v8 v9 v10 v11 v12 (upd (proA f b) ((15 - (3 * b)) + 0) (nI (if rcN f (1 - b) ≤ apN f b then rcN f (1 - b) else apN f b))) (chP v4 ps) (chG v4 f g ps) h tx td (1 - b) (apN f b) (hA_up hA hS) (by omega) (by omega) (hD.sub [0, 1, 2, 3, 4, 5] (by decide) rfl)) (cwV 2 hts (lw_V q1440 q1442 qs33 q67 q1443) rfl rfl rfl (by decide +kernel) ⟨Nat.le_of_ble_eq_true rfl, Nat.le_of_ble_eq_true rfl⟩) hC hS (fun _ h => h) (hP.sub (ws' := [(m0, .inr (4, [.ref sa, .ref pa, .ref ha, .int (nI ((chP v4 ps))), .int v4, .ref xa, .int v6, .int v7, .int v8, .int v9, .int v10, .int v11, .int v12, .ref ta])), (sa, .inl (dA 0, 718, .inl (upd (proA f b) ((15 - (3 * b)) + 0) (nI (if rcN f (1 - b) ≤ apN f b then rcN f (1 - b) else apN f b))))), (pa, .inl (dA 0, 2872, .inl (chG v4 f g ps))), (ha, .inl (dA 0, 718, .inl h)), (xa, .inl (dA 0, 60, .inl tx)), (ta, .inl (dA 0, 3, .inl td))]) [0, 1, 2, 3, 4, 5] rfl) (va_recv hK hP (ci := 4) (q0 := 0) rfl rfl) rfl rfl hl.1 (Nat.le_of_ble_eq_true rfl) dX4_promote_174 ⟨Nat.le_of_ble_eq_true rfl, Nat.le_of_ble_eq_true rfl⟩ (fun H locs hQ hF hS => ?_)
                    obtain ⟨hQ, hP⟩ := hQ
                    have hD := va_D.same (ws' := [(m0, .inr (4, [.ref sa, .ref pa, .ref ha, .int (nI ((chP v4 ps))), .int v4, .ref xa, .int v6, .int v7, .int v8, .int v9, .int v10, .int v11, .int v12, .ref ta])), (sa, .inl (dA 0, 718, .inl (fillG (upd (proA f b) ((15 - (3 * b)) + 0) (nI (if rcN f (1 - b) ≤ apN f b then rcN f (1 - b) else apN f b))) (1 - b) (apN f b)))), (pa, .inl (dA 0, 2872, .inl (chG v4 f g ps))), (ha, .inl (dA 0, 718, .inl h)), (xa, .inl (dA 0, 60, .inl tx)), (ta, .inl (dA 0, 3, .inl td))]) (hD.sub (ws' := [(m0, .inr (4, [.ref sa, .ref pa, .ref ha, .int (nI ((chP v4 ps))), .int v4, .ref xa, .int v6, .int v7, .int v8, .int v9, .int v10, .int v11, .int v12, .ref ta])), (sa, .inl (dA 0, 718, .inl (upd (proA f b) ((15 - (3 * b)) + 0) (nI (if rcN f (1 - b) ≤ apN f b then rcN f (1 - b) else apN f b))))), (pa, .inl (dA 0, 2872, .inl (chG v4 f g ps))), (ha, .inl (dA 0, 718, .inl h)), (xa, .inl (dA 0, 60, .inl tx)), (ta, .inl (dA 0, 3, .inl td))]) [0, 1, 2, 3, 4, 5] (by decide) rfl) rfl
                    have hP : va_P D vwCl [(m0, .inr (4, [.ref sa, .ref pa, .ref ha, .int (nI ((chP v4 ps))), .int v4, .ref xa, .int v6, .int v7, .int v8, .int v9, .int v10, .int v11, .int v12, .ref ta])), (sa, .inl (dA 0, 718, .inl (fillG (upd (proA f b) ((15 - (3 * b)) + 0) (nI (if rcN f (1 - b) ≤ apN f b then rcN f (1 - b) else apN f b))) (1 - b) (apN f b)))), (pa, .inl (dA 0, 2872, .inl (chG v4 f g ps))), (ha, .inl (dA 0, 718, .inl h)), (xa, .inl (dA 0, 60, .inl tx)), (ta, .inl (dA 0, 3, .inl td))] H := hP
                    have hD : va_D A [(m0, .inr (4, [.ref sa, .ref pa, .ref ha, .int (nI ((chP v4 ps))), .int v4, .ref xa, .int v6, .int v7, .int v8, .int v9, .int v10, .int v11, .int v12, .ref ta])), (sa, .inl (dA 0, 718, .inl (fillG (upd (proA f b) ((15 - (3 * b)) + 0) (nI (if rcN f (1 - b) ≤ apN f b then rcN f (1 - b) else apN f b))) (1 - b) (apN f b)))), (pa, .inl (dA 0, 2872, .inl (chG v4 f g ps))), (ha, .inl (dA 0, 718, .inl h)), (xa, .inl (dA 0, 60, .inl tx)), (ta, .inl (dA 0, 3, .inl td))] := hD
                    rw [show (fillG (upd (proA f b) ((15 - (3 * b)) + 0) (nI (if rcN f (1 - b) ≤ apN f b then rcN f (1 - b) else apN f b))) (1 - b) (apN f b) : Nat → Int32) = proB (proA f b) (1 - b) (apN f b) from by unfold proB; rw [rcN_proA h1, show 12 + 3 * (1 - b) + 0 = 15 - 3 * b + 0 by omega]] at hP hD
                    refine lv_aload_n hx hb dX4_promote_177 rfl (lv_at hl 4 rfl) ?_
                    refine va_get (D := D) (ci := 4) (v := .ref sa) (C := RX4) (T := TX4) (N := 14) hx hb hts in_X4 hown hK hP 0 rfl rfl 0 (by decide) (hts _ q1329) (fun _ h9 => h9) rfl dX4_promote_178 ?_
                    refine lv_iload hx hb dX4_promote_181 (lv_at hl 0 rfl) ?_
                    refine lv_iconst (v := nI (1)) hx hb dX4_promote_183 (by decide) ?_
                    refine lv_iadd hx hb dX4_promote_184 ?_
                    refine lv_tope (y := nI ((15 - (3 * b)) + 1)) (nI_add _ _) ?_
                    refine va_iald hx hb hK hP 1 0 rfl rfl (vp_in_nI (by omega) (by omega)) dX4_promote_185 ?_
                    refine lv_tope (y := (proB (proA f b) (1 - b) (apN f b)) ((15 - (3 * b)) + 1)) (by rw [nI_clamp (by omega)]) ?_
                    refine lv_tope (y := nI (apN f (1 - b))) (by rw [proB_o h1 (by omega) (by omega), proA_o h1 (by omega), ← sbf_o f h1]; exact hap2) ?_
                    refine lv_iload_n hx hb dX4_promote_186 rfl (lv_at hl 2 rfl) ?_
                    refine lv_icmp_le (tgt := 210) hx hb dX4_promote_187 (by decide) (fun c_28 => ?_) (fun c_28 => ?_)
                    · have c_28 := (nI_leI (by omega) (by omega)).1 c_28
                      rw [show (proB (proA f b) (1 - b) (apN f b) : Nat → Int32) = proF f b from by unfold proF proC; rw [apN_proB h1]; rw [if_pos (by omega)]] at hP hD
                      refine lv_iload_n hx hb dX4_promote_210 rfl (lv_at hl 3 rfl) ?_
                      exact z_iret (v := nI (lost f b)) hx hb hr hS (by rw [show oPromote f (nI (b)) = (true, nI (lost f b), proF f b) from by unfold oPromote; simp only [nI_clamp (show b < 2 ^ 31 by omega)]; (repeat' split) <;> first | rfl | contradiction | (exfalso; simp_all; done)]; exact ⟨rfl, hP⟩) (by omega) (by omega) dX4_promote_211
                    · have c_28 := mt (nI_leI (by omega) (by omega)).2 c_28
                      refine lv_aload_n hx hb dX4_promote_190 rfl (lv_at hl 4 rfl) ?_
                      refine va_get (D := D) (ci := 4) (v := .ref sa) (C := RX4) (T := TX4) (N := 14) hx hb hts in_X4 hown hK hP 0 rfl rfl 0 (by decide) (hts _ q1329) (fun _ h9 => h9) rfl dX4_promote_191 ?_
                      refine lv_iload hx hb dX4_promote_194 (lv_at hl 0 rfl) ?_
                      refine lv_iconst (v := nI (1)) hx hb dX4_promote_196 (by decide) ?_
                      refine lv_iadd hx hb dX4_promote_197 ?_
                      refine lv_tope (y := nI ((15 - (3 * b)) + 1)) (nI_add _ _) ?_
                      refine lv_iload_n hx hb dX4_promote_198 rfl (lv_at hl 2 rfl) ?_
                      refine va_iast hx hb hK hP hD hS 1 0 rfl rfl (vp_in_nI (by omega) (by omega)) dX4_promote_199 (fun H locs hP hD hS => ?_)
                      rw [nI_clamp (by omega)] at hP hD
                      have hP : va_P D vwCl [(m0, .inr (4, [.ref sa, .ref pa, .ref ha, .int (nI ((chP v4 ps))), .int v4, .ref xa, .int v6, .int v7, .int v8, .int v9, .int v10, .int v11, .int v12, .ref ta])), (sa, .inl (dA 0, 718, .inl (upd (proB (proA f b) (1 - b) (apN f b)) ((15 - (3 * b)) + 1) (nI (apN f b))))), (pa, .inl (dA 0, 2872, .inl (chG v4 f g ps))), (ha, .inl (dA 0, 718, .inl h)), (xa, .inl (dA 0, 60, .inl tx)), (ta, .inl (dA 0, 3, .inl td))] H := hP
                      have hD : va_D A [(m0, .inr (4, [.ref sa, .ref pa, .ref ha, .int (nI ((chP v4 ps))), .int v4, .ref xa, .int v6, .int v7, .int v8, .int v9, .int v10, .int v11, .int v12, .ref ta])), (sa, .inl (dA 0, 718, .inl (upd (proB (proA f b) (1 - b) (apN f b)) ((15 - (3 * b)) + 1) (nI (apN f b))))), (pa, .inl (dA 0, 2872, .inl (chG v4 f g ps))), (ha, .inl (dA 0, 718, .inl h)), (xa, .inl (dA 0, 60, .inl tx)), (ta, .inl (dA 0, 3, .inl td))] := hD
                      refine lv_aload_n hx hb dX4_promote_200 rfl (lv_at hl 4 rfl) ?_
                      refine va_get (D := D) (ci := 4) (v := .ref sa) (C := RX4) (T := TX4) (N := 14) hx hb hts in_X4 hown hK hP 0 rfl rfl 0 (by decide) (hts _ q1329) (fun _ h9 => h9) rfl dX4_promote_201 ?_
                      refine lv_iload hx hb dX4_promote_204 (lv_at hl 0 rfl) ?_
                      refine lv_iconst (v := nI (2)) hx hb dX4_promote_206 (by decide) ?_
                      refine lv_iadd hx hb dX4_promote_207 ?_
                      refine lv_tope (y := nI ((15 - (3 * b)) + 2)) (nI_add _ _) ?_
                      refine lv_iconst (v := nI (1)) hx hb dX4_promote_208 (by decide) ?_
                      refine va_iast hx hb hK hP hD hS 1 0 rfl rfl (vp_in_nI (by omega) (by omega)) dX4_promote_209 (fun H locs hP hD hS => ?_)
                      rw [nI_clamp (by omega)] at hP hD
                      have hP : va_P D vwCl [(m0, .inr (4, [.ref sa, .ref pa, .ref ha, .int (nI ((chP v4 ps))), .int v4, .ref xa, .int v6, .int v7, .int v8, .int v9, .int v10, .int v11, .int v12, .ref ta])), (sa, .inl (dA 0, 718, .inl (upd (upd (proB (proA f b) (1 - b) (apN f b)) ((15 - (3 * b)) + 1) (nI (apN f b))) ((15 - (3 * b)) + 2) (nI (1))))), (pa, .inl (dA 0, 2872, .inl (chG v4 f g ps))), (ha, .inl (dA 0, 718, .inl h)), (xa, .inl (dA 0, 60, .inl tx)), (ta, .inl (dA 0, 3, .inl td))] H := hP
                      have hD : va_D A [(m0, .inr (4, [.ref sa, .ref pa, .ref ha, .int (nI ((chP v4 ps))), .int v4, .ref xa, .int v6, .int v7, .int v8, .int v9, .int v10, .int v11, .int v12, .ref ta])), (sa, .inl (dA 0, 718, .inl (upd (upd (proB (proA f b) (1 - b) (apN f b)) ((15 - (3 * b)) + 1) (nI (apN f b))) ((15 - (3 * b)) + 2) (nI (1))))), (pa, .inl (dA 0, 2872, .inl (chG v4 f g ps))), (ha, .inl (dA 0, 718, .inl h)), (xa, .inl (dA 0, 60, .inl tx)), (ta, .inl (dA 0, 3, .inl td))] := hD
                      rw [show (upd (upd (proB (proA f b) (1 - b) (apN f b)) ((15 - (3 * b)) + 1) (nI (apN f b))) ((15 - (3 * b)) + 2) (nI (1)) : Nat → Int32) = proF f b from by unfold proF proC; rw [apN_proB h1]; rw [if_neg (by omega), show 12 + 3 * (1 - b) = 15 - 3 * b by omega]] at hP hD
                      refine lv_iload_n hx hb dX4_promote_210 rfl (lv_at hl 3 rfl) ?_
                      exact z_iret (v := nI (lost f b)) hx hb hr hS (by rw [show oPromote f (nI (b)) = (true, nI (lost f b), proF f b) from by unfold oPromote; simp only [nI_clamp (show b < 2 ^ 31 by omega)]; (repeat' split) <;> first | rfl | contradiction | (exfalso; simp_all; done)]; exact ⟨rfl, hP⟩) (by omega) (by omega) dX4_promote_211
                  · have c_26 := mt (nI_leI (by omega) (by omega)).2 c_26
                    refine lv_iload_n hx hb dX4_promote_155 rfl (lv_at hl 2 rfl) ?_
                    refine lv_goto (tgt := 168) hx hb dX4_promote_156 (by decide) ?_
                    refine lv_tope (y := nI (if rcN f (1 - b) ≤ apN f b then rcN f (1 - b) else apN f b)) (by rw [if_neg (by omega)]) ?_
                    refine va_iast hx hb hK hP hD hS 1 0 rfl rfl (vp_in_nI (by omega) (by omega)) dX4_promote_168 (fun H locs hP hD hS => ?_)
                    rw [nI_clamp (by omega)] at hP hD
                    have hP : va_P D vwCl [(m0, .inr (4, [.ref sa, .ref pa, .ref ha, .int (nI ((chP v4 ps))), .int v4, .ref xa, .int v6, .int v7, .int v8, .int v9, .int v10, .int v11, .int v12, .ref ta])), (sa, .inl (dA 0, 718, .inl (upd (proA f b) ((15 - (3 * b)) + 0) (nI (if rcN f (1 - b) ≤ apN f b then rcN f (1 - b) else apN f b))))), (pa, .inl (dA 0, 2872, .inl (chG v4 f g ps))), (ha, .inl (dA 0, 718, .inl h)), (xa, .inl (dA 0, 60, .inl tx)), (ta, .inl (dA 0, 3, .inl td))] H := hP
                    have hD : va_D A [(m0, .inr (4, [.ref sa, .ref pa, .ref ha, .int (nI ((chP v4 ps))), .int v4, .ref xa, .int v6, .int v7, .int v8, .int v9, .int v10, .int v11, .int v12, .ref ta])), (sa, .inl (dA 0, 718, .inl (upd (proA f b) ((15 - (3 * b)) + 0) (nI (if rcN f (1 - b) ≤ apN f b then rcN f (1 - b) else apN f b))))), (pa, .inl (dA 0, 2872, .inl (chG v4 f g ps))), (ha, .inl (dA 0, 718, .inl h)), (xa, .inl (dA 0, 60, .inl tx)), (ta, .inl (dA 0, 3, .inl td))] := hD
                    refine lv_aload_n hx hb dX4_promote_169 rfl (lv_at hl 4 rfl) ?_
                    refine lv_iconst (v := nI (1)) hx hb dX4_promote_170 (by decide) ?_
                    refine lv_iload_n hx hb dX4_promote_171 rfl (lv_at hl 5 rfl) ?_
                    refine lv_isub hx hb dX4_promote_172 ?_
                    refine lv_tope (y := nI (1 - b)) (pk_sub (by omega)) ?_
                    refine lv_iload_n hx hb dX4_promote_173 rfl (lv_at hl 2 rfl) ?_
                    refine z_cVv (As := [.int (nI (1 - b)), .int (nI (apN f b))]) (rest := []) ⟨hx, hb, hml, hown, hts⟩ (mX4_fillsGaps l D dA ad A H.size m0 sa pa ha xa ta v4 v6 v7 v8 v9 v10 v11 v12 (upd (proA f b) ((15 - (3 * b)) + 0) (nI (if rcN f (1 - b) ≤ apN f b then rcN f (1 - b) else apN f b))) (chP v4 ps) (chG v4 f g ps) h tx td (1 - b) (apN f b) (hA_up hA hS) (by omega) (by omega) (hD.sub [0, 1, 2, 3, 4, 5] (by decide) rfl)) (cwV 2 hts (lw_V q1440 q1442 qs33 q67 q1443) rfl rfl rfl (by decide +kernel) ⟨Nat.le_of_ble_eq_true rfl, Nat.le_of_ble_eq_true rfl⟩) hC hS (fun _ h => h) (hP.sub (ws' := [(m0, .inr (4, [.ref sa, .ref pa, .ref ha, .int (nI ((chP v4 ps))), .int v4, .ref xa, .int v6, .int v7, .int v8, .int v9, .int v10, .int v11, .int v12, .ref ta])), (sa, .inl (dA 0, 718, .inl (upd (proA f b) ((15 - (3 * b)) + 0) (nI (if rcN f (1 - b) ≤ apN f b then rcN f (1 - b) else apN f b))))), (pa, .inl (dA 0, 2872, .inl (chG v4 f g ps))), (ha, .inl (dA 0, 718, .inl h)), (xa, .inl (dA 0, 60, .inl tx)), (ta, .inl (dA 0, 3, .inl td))]) [0, 1, 2, 3, 4, 5] rfl) (va_recv hK hP (ci := 4) (q0 := 0) rfl rfl) rfl rfl hl.1 (Nat.le_of_ble_eq_true rfl) dX4_promote_174 ⟨Nat.le_of_ble_eq_true rfl, Nat.le_of_ble_eq_true rfl⟩ (fun H locs hQ hF hS => ?_)
                    obtain ⟨hQ, hP⟩ := hQ
                    have hD := va_D.same (ws' := [(m0, .inr (4, [.ref sa, .ref pa, .ref ha, .int (nI ((chP v4 ps))), .int v4, .ref xa, .int v6, .int v7, .int v8, .int v9, .int v10, .int v11, .int v12, .ref ta])), (sa, .inl (dA 0, 718, .inl (fillG (upd (proA f b) ((15 - (3 * b)) + 0) (nI (if rcN f (1 - b) ≤ apN f b then rcN f (1 - b) else apN f b))) (1 - b) (apN f b)))), (pa, .inl (dA 0, 2872, .inl (chG v4 f g ps))), (ha, .inl (dA 0, 718, .inl h)), (xa, .inl (dA 0, 60, .inl tx)), (ta, .inl (dA 0, 3, .inl td))]) (hD.sub (ws' := [(m0, .inr (4, [.ref sa, .ref pa, .ref ha, .int (nI ((chP v4 ps))), .int v4, .ref xa, .int v6, .int v7, .int v8, .int v9, .int v10, .int v11, .int v12, .ref ta])), (sa, .inl (dA 0, 718, .inl (upd (proA f b) ((15 - (3 * b)) + 0) (nI (if rcN f (1 - b) ≤ apN f b then rcN f (1 - b) else apN f b))))), (pa, .inl (dA 0, 2872, .inl (chG v4 f g ps))), (ha, .inl (dA 0, 718, .inl h)), (xa, .inl (dA 0, 60, .inl tx)), (ta, .inl (dA 0, 3, .inl td))]) [0, 1, 2, 3, 4, 5] (by decide) rfl) rfl
                    have hP : va_P D vwCl [(m0, .inr (4, [.ref sa, .ref pa, .ref ha, .int (nI ((chP v4 ps))), .int v4, .ref xa, .int v6, .int v7, .int v8, .int v9, .int v10, .int v11, .int v12, .ref ta])), (sa, .inl (dA 0, 718, .inl (fillG (upd (proA f b) ((15 - (3 * b)) + 0) (nI (if rcN f (1 - b) ≤ apN f b then rcN f (1 - b) else apN f b))) (1 - b) (apN f b)))), (pa, .inl (dA 0, 2872, .inl (chG v4 f g ps))), (ha, .inl (dA 0, 718, .inl h)), (xa, .inl (dA 0, 60, .inl tx)), (ta, .inl (dA 0, 3, .inl td))] H := hP
                    have hD : va_D A [(m0, .inr (4, [.ref sa, .ref pa, .ref ha, .int (nI ((chP v4 ps))), .int v4, .ref xa, .int v6, .int v7, .int v8, .int v9, .int v10, .int v11, .int v12, .ref ta])), (sa, .inl (dA 0, 718, .inl (fillG (upd (proA f b) ((15 - (3 * b)) + 0) (nI (if rcN f (1 - b) ≤ apN f b then rcN f (1 - b) else apN f b))) (1 - b) (apN f b)))), (pa, .inl (dA 0, 2872, .inl (chG v4 f g ps))), (ha, .inl (dA 0, 718, .inl h)), (xa, .inl (dA 0, 60, .inl tx)), (ta, .inl (dA 0, 3, .inl td))] := hD
                    rw [show (fillG (upd (proA f b) ((15 - (3 * b)) + 0) (nI (if rcN f (1 - b) ≤ apN f b then rcN f (1 - b) else apN f b))) (1 - b) (apN f b) : Nat → Int32) = proB (proA f b) (1 - b) (apN f b) from by unfold proB; rw [rcN_proA h1, show 12 + 3 * (1 - b) + 0 = 15 - 3 * b + 0 by omega]] at hP hD
                    refine lv_aload_n hx hb dX4_promote_177 rfl (lv_at hl 4 rfl) ?_
                    refine va_get (D := D) (ci := 4) (v := .ref sa) (C := RX4) (T := TX4) (N := 14) hx hb hts in_X4 hown hK hP 0 rfl rfl 0 (by decide) (hts _ q1329) (fun _ h9 => h9) rfl dX4_promote_178 ?_
                    refine lv_iload hx hb dX4_promote_181 (lv_at hl 0 rfl) ?_
                    refine lv_iconst (v := nI (1)) hx hb dX4_promote_183 (by decide) ?_
                    refine lv_iadd hx hb dX4_promote_184 ?_
                    refine lv_tope (y := nI ((15 - (3 * b)) + 1)) (nI_add _ _) ?_
                    refine va_iald hx hb hK hP 1 0 rfl rfl (vp_in_nI (by omega) (by omega)) dX4_promote_185 ?_
                    refine lv_tope (y := (proB (proA f b) (1 - b) (apN f b)) ((15 - (3 * b)) + 1)) (by rw [nI_clamp (by omega)]) ?_
                    refine lv_tope (y := nI (apN f (1 - b))) (by rw [proB_o h1 (by omega) (by omega), proA_o h1 (by omega), ← sbf_o f h1]; exact hap2) ?_
                    refine lv_iload_n hx hb dX4_promote_186 rfl (lv_at hl 2 rfl) ?_
                    refine lv_icmp_le (tgt := 210) hx hb dX4_promote_187 (by decide) (fun c_30 => ?_) (fun c_30 => ?_)
                    · have c_30 := (nI_leI (by omega) (by omega)).1 c_30
                      rw [show (proB (proA f b) (1 - b) (apN f b) : Nat → Int32) = proF f b from by unfold proF proC; rw [apN_proB h1]; rw [if_pos (by omega)]] at hP hD
                      refine lv_iload_n hx hb dX4_promote_210 rfl (lv_at hl 3 rfl) ?_
                      exact z_iret (v := nI (lost f b)) hx hb hr hS (by rw [show oPromote f (nI (b)) = (true, nI (lost f b), proF f b) from by unfold oPromote; simp only [nI_clamp (show b < 2 ^ 31 by omega)]; (repeat' split) <;> first | rfl | contradiction | (exfalso; simp_all; done)]; exact ⟨rfl, hP⟩) (by omega) (by omega) dX4_promote_211
                    · have c_30 := mt (nI_leI (by omega) (by omega)).2 c_30
                      refine lv_aload_n hx hb dX4_promote_190 rfl (lv_at hl 4 rfl) ?_
                      refine va_get (D := D) (ci := 4) (v := .ref sa) (C := RX4) (T := TX4) (N := 14) hx hb hts in_X4 hown hK hP 0 rfl rfl 0 (by decide) (hts _ q1329) (fun _ h9 => h9) rfl dX4_promote_191 ?_
                      refine lv_iload hx hb dX4_promote_194 (lv_at hl 0 rfl) ?_
                      refine lv_iconst (v := nI (1)) hx hb dX4_promote_196 (by decide) ?_
                      refine lv_iadd hx hb dX4_promote_197 ?_
                      refine lv_tope (y := nI ((15 - (3 * b)) + 1)) (nI_add _ _) ?_
                      refine lv_iload_n hx hb dX4_promote_198 rfl (lv_at hl 2 rfl) ?_
                      refine va_iast hx hb hK hP hD hS 1 0 rfl rfl (vp_in_nI (by omega) (by omega)) dX4_promote_199 (fun H locs hP hD hS => ?_)
                      rw [nI_clamp (by omega)] at hP hD
                      have hP : va_P D vwCl [(m0, .inr (4, [.ref sa, .ref pa, .ref ha, .int (nI ((chP v4 ps))), .int v4, .ref xa, .int v6, .int v7, .int v8, .int v9, .int v10, .int v11, .int v12, .ref ta])), (sa, .inl (dA 0, 718, .inl (upd (proB (proA f b) (1 - b) (apN f b)) ((15 - (3 * b)) + 1) (nI (apN f b))))), (pa, .inl (dA 0, 2872, .inl (chG v4 f g ps))), (ha, .inl (dA 0, 718, .inl h)), (xa, .inl (dA 0, 60, .inl tx)), (ta, .inl (dA 0, 3, .inl td))] H := hP
                      have hD : va_D A [(m0, .inr (4, [.ref sa, .ref pa, .ref ha, .int (nI ((chP v4 ps))), .int v4, .ref xa, .int v6, .int v7, .int v8, .int v9, .int v10, .int v11, .int v12, .ref ta])), (sa, .inl (dA 0, 718, .inl (upd (proB (proA f b) (1 - b) (apN f b)) ((15 - (3 * b)) + 1) (nI (apN f b))))), (pa, .inl (dA 0, 2872, .inl (chG v4 f g ps))), (ha, .inl (dA 0, 718, .inl h)), (xa, .inl (dA 0, 60, .inl tx)), (ta, .inl (dA 0, 3, .inl td))] := hD
                      refine lv_aload_n hx hb dX4_promote_200 rfl (lv_at hl 4 rfl) ?_
                      refine va_get (D := D) (ci := 4) (v := .ref sa) (C := RX4) (T := TX4) (N := 14) hx hb hts in_X4 hown hK hP 0 rfl rfl 0 (by decide) (hts _ q1329) (fun _ h9 => h9) rfl dX4_promote_201 ?_
                      refine lv_iload hx hb dX4_promote_204 (lv_at hl 0 rfl) ?_
                      refine lv_iconst (v := nI (2)) hx hb dX4_promote_206 (by decide) ?_
                      refine lv_iadd hx hb dX4_promote_207 ?_
                      refine lv_tope (y := nI ((15 - (3 * b)) + 2)) (nI_add _ _) ?_
                      refine lv_iconst (v := nI (1)) hx hb dX4_promote_208 (by decide) ?_
                      refine va_iast hx hb hK hP hD hS 1 0 rfl rfl (vp_in_nI (by omega) (by omega)) dX4_promote_209 (fun H locs hP hD hS => ?_)
                      rw [nI_clamp (by omega)] at hP hD
                      have hP : va_P D vwCl [(m0, .inr (4, [.ref sa, .ref pa, .ref ha, .int (nI ((chP v4 ps))), .int v4, .ref xa, .int v6, .int v7, .int v8, .int v9, .int v10, .int v11, .int v12, .ref ta])), (sa, .inl (dA 0, 718, .inl (upd (upd (proB (proA f b) (1 - b) (apN f b)) ((15 - (3 * b)) + 1) (nI (apN f b))) ((15 - (3 * b)) + 2) (nI (1))))), (pa, .inl (dA 0, 2872, .inl (chG v4 f g ps))), (ha, .inl (dA 0, 718, .inl h)), (xa, .inl (dA 0, 60, .inl tx)), (ta, .inl (dA 0, 3, .inl td))] H := hP
                      have hD : va_D A [(m0, .inr (4, [.ref sa, .ref pa, .ref ha, .int (nI ((chP v4 ps))), .int v4, .ref xa, .int v6, .int v7, .int v8, .int v9, .int v10, .int v11, .int v12, .ref ta])), (sa, .inl (dA 0, 718, .inl (upd (upd (proB (proA f b) (1 - b) (apN f b)) ((15 - (3 * b)) + 1) (nI (apN f b))) ((15 - (3 * b)) + 2) (nI (1))))), (pa, .inl (dA 0, 2872, .inl (chG v4 f g ps))), (ha, .inl (dA 0, 718, .inl h)), (xa, .inl (dA 0, 60, .inl tx)), (ta, .inl (dA 0, 3, .inl td))] := hD
                      rw [show (upd (upd (proB (proA f b) (1 - b) (apN f b)) ((15 - (3 * b)) + 1) (nI (apN f b))) ((15 - (3 * b)) + 2) (nI (1)) : Nat → Int32) = proF f b from by unfold proF proC; rw [apN_proB h1]; rw [if_neg (by omega), show 12 + 3 * (1 - b) = 15 - 3 * b by omega]] at hP hD
                      refine lv_iload_n hx hb dX4_promote_210 rfl (lv_at hl 3 rfl) ?_
                      exact z_iret (v := nI (lost f b)) hx hb hr hS (by rw [show oPromote f (nI (b)) = (true, nI (lost f b), proF f b) from by unfold oPromote; simp only [nI_clamp (show b < 2 ^ 31 by omega)]; (repeat' split) <;> first | rfl | contradiction | (exfalso; simp_all; done)]; exact ⟨rfl, hP⟩) (by omega) (by omega) dX4_promote_211
              · exact absurd c_23 (by decide)
    · refine lv_ldc (v := (-1000002)) hx hb hown (hts _ q1383) dX4_promote_20 ?_
      exact z_iret (v := (-1000002)) hx hb hr hS (by rw [show oPromote f (nI (b)) = (false, (-1000002), f) from by unfold oPromote; simp only [nI_clamp (show b < 2 ^ 31 by omega)]; (repeat' split) <;> first | rfl | contradiction | (exfalso; simp_all; done)]; exact ⟨rfl, hP⟩) (by omega) (by omega) dX4_promote_22
  · have c_2 := bI_0.1 c_2
    refine lv_ldc (v := (-1000001)) hx hb hown (hts _ q1382) dX4_promote_7 ?_
    exact z_iret (v := (-1000001)) hx hb hr hS (by rw [show oPromote f sb = (false, (-1000001), f) from by unfold oPromote; (repeat' split) <;> first | rfl | contradiction | (exfalso; simp_all; done)]; exact ⟨rfl, hP⟩) (by omega) (by omega) dX4_promote_9

set_option maxHeartbeats 4000000 in
set_option maxRecDepth 100000 in
theorem mX4_undo (l : Launch) (D : va_G) (dA : Nat → ClassId) (ad : Nat → Nat) (A : Nat → Prop) (sz : Nat) (m0 : Nat) (sa : Nat) (pa : Nat) (ha : Nat) (xa : Nat) (ta : Nat) (v4 : Int32) (v6 : Int32) (v7 : Int32) (v8 : Int32) (v9 : Int32) (v10 : Int32) (v11 : Int32) (v12 : Int32) (f : Nat → Int32) (ps : Nat) (g : Nat → Int32) (h : Nat → Int32) (tx : Nat → Int32) (td : Nat → Int32) (hA : ∀ q, sz ≤ q → A q) (hp4 : ps ≤ 4) (hD : va_D A [(m0, .inr (4, [.ref sa, .ref pa, .ref ha, .int (nI (ps)), .int v4, .ref xa, .int v6, .int v7, .int v8, .int v9, .int v10, .int v11, .int v12, .ref ta])), (sa, .inl (dA 0, 718, .inl f)), (pa, .inl (dA 0, 2872, .inl g)), (ha, .inl (dA 0, 718, .inl h)), (xa, .inl (dA 0, 60, .inl tx)), (ta, .inl (dA 0, 3, .inl td))]) : Met l yX4_undo (ws_ yX4_undo cX4_undo 2 (some .int)) ({ frames := 0, cells := 0, slots := 0, locals := 0 }) (va_Pc [.ref m0] (zP D dA ad A sz (fun H => va_P D vwCl [(m0, .inr (4, [.ref sa, .ref pa, .ref ha, .int (nI (ps)), .int v4, .ref xa, .int v6, .int v7, .int v8, .int v9, .int v10, .int v11, .int v12, .ref ta])), (sa, .inl (dA 0, 718, .inl f)), (pa, .inl (dA 0, 2872, .inl g)), (ha, .inl (dA 0, 718, .inl h)), (xa, .inl (dA 0, 60, .inl tx)), (ta, .inl (dA 0, 3, .inl td))] H))) (zQi (fun rz H => rz = aUndo ps ∧ va_P D vwCl [(m0, .inr (4, [.ref sa, .ref pa, .ref ha, .int (nI (ps - 1)), .int v4, .ref xa, .int v6, .int v7, .int v8, .int v9, .int v10, .int v11, .int v12, .ref ta])), (sa, .inl (dA 0, 718, .inl (unF f g ps))), (pa, .inl (dA 0, 2872, .inl g)), (ha, .inl (dA 0, 718, .inl h)), (xa, .inl (dA 0, 60, .inl tx)), (ta, .inl (dA 0, 3, .inl td))] H) A) (0) (0) A := by
  refine Met.ofW (cc := cX4_undo) (maxL := 2) (ret := (some .int)) (by decide) rfl ?_
  intro p e s m args below meth c s₁ B hml hv
  obtain ⟨rfl, hsz, hC, hP⟩ := hv
  have hx := B.exec
  have hb := B.bytes
  have hr := B.returns
  have hts := atoms_spec (ws := ws_ yX4_undo cX4_undo 2 (some .int)) B.pre
  have hts : ∀ w ∈ lw_all, w.before _ s = true := fun w h => hts w (List.mem_cons_of_mem _ h)
  have hown : s.vm.findClass RX4 = some m.cls := findClass_of_methodNamed B.named
  have hlocks := B.notSynchronized
  subst hsz
  have hK := hC.K
  have hS : va_S A s.heap s.heap [] := va_S.rf
  have hP : va_P D vwCl [(m0, .inr (4, [.ref sa, .ref pa, .ref ha, .int (nI (ps)), .int v4, .ref xa, .int v6, .int v7, .int v8, .int v9, .int v10, .int v11, .int v12, .ref ta])), (sa, .inl (dA 0, 718, .inl f)), (pa, .inl (dA 0, 2872, .inl g)), (ha, .inl (dA 0, 718, .inl h)), (xa, .inl (dA 0, 60, .inl tx)), (ta, .inl (dA 0, 3, .inl td))] s.heap := hP
  have hl := lv_entry ([.ref m0]) (n := 2) (Nat.le_of_ble_eq_true rfl)
  rw [lg_entry_eq]
  generalize (lg_sl ([.ref m0]) ++ List.replicate (2 - (lg_sl ([.ref m0])).length) Slot.unset).toArray = ls at hl ⊢
  have hl : lv_has ls 2 [(0, .ref m0)] := hl
  refine lv_aload_n hx hb dX4_undo_0 rfl (lv_at hl 0 rfl) ?_
  refine va_get (D := D) (ci := 4) (v := .int (nI (ps))) (C := RX4) (T := TX4) (N := 14) hx hb hts in_X4 hown hK hP 0 rfl rfl 3 (by decide) (hts _ q1332) (fun _ h9 => h9) rfl dX4_undo_1 ?_
  refine lv_if_ne (tgt := 10) hx hb dX4_undo_4 (by decide) (fun c_1 => ?_) (fun c_1 => ?_)
  · have c_1 := mt (nI_eq (by omega) (by omega)).2 (show ¬ nI _ = nI 0 from c_1)
    have hps := c_1
    refine lv_aload_n hx hb dX4_undo_10 rfl (lv_at hl 0 rfl) ?_
    refine lv_dup hx hb dX4_undo_11 rfl ?_
    refine va_get (D := D) (ci := 4) (v := .int (nI (ps))) (C := RX4) (T := TX4) (N := 14) hx hb hts in_X4 hown hK hP 0 rfl rfl 3 (by decide) (hts _ q1332) (fun _ h9 => h9) rfl dX4_undo_12 ?_
    refine lv_iconst (v := nI (1)) hx hb dX4_undo_15 (by decide) ?_
    refine lv_isub hx hb dX4_undo_16 ?_
    refine lv_tope (y := nI (ps - 1)) (pk_sub (by omega)) ?_
    refine va_put (D := D) (ci := 4) (v := .int (nI (ps - 1))) (ty := .int) (C := RX4) (T := TX4) (N := 14) hx hb hts in_X4 tyX4 tyX4_ok nmX4 hown hK hP hD hS 0 rfl rfl 3 (by decide) (hts _ q1332) (fun _ h9 => h9) rfl (by decide +kernel) rfl rfl (Nat.le_of_ble_eq_true rfl) dX4_undo_17 (fun H locs hP hD hS => ?_)
    have hP : va_P D vwCl [(m0, .inr (4, [.ref sa, .ref pa, .ref ha, .int (nI (ps - 1)), .int v4, .ref xa, .int v6, .int v7, .int v8, .int v9, .int v10, .int v11, .int v12, .ref ta])), (sa, .inl (dA 0, 718, .inl f)), (pa, .inl (dA 0, 2872, .inl g)), (ha, .inl (dA 0, 718, .inl h)), (xa, .inl (dA 0, 60, .inl tx)), (ta, .inl (dA 0, 3, .inl td))] H := hP
    have hD : va_D A [(m0, .inr (4, [.ref sa, .ref pa, .ref ha, .int (nI (ps - 1)), .int v4, .ref xa, .int v6, .int v7, .int v8, .int v9, .int v10, .int v11, .int v12, .ref ta])), (sa, .inl (dA 0, 718, .inl f)), (pa, .inl (dA 0, 2872, .inl g)), (ha, .inl (dA 0, 718, .inl h)), (xa, .inl (dA 0, 60, .inl tx)), (ta, .inl (dA 0, 3, .inl td))] := hD
    rw [show (f : Nat → Int32) = cpi f g (ps - 1) 0 from cpi_0 _ _ _] at hP hD
    refine lv_iconst (v := nI (0)) hx hb dX4_undo_20 (by decide) ?_
    refine lv_istore_n (lv' := [(1, .int (nI (0))), (0, .ref m0)]) hx hb dX4_undo_21 rfl hl (by decide) rfl (fun ls hl => ?_)
    refine z_loop (σ := Nat) (fun i => 718 - i) (fun i H locs ls => va_P D vwCl [(m0, .inr (4, [.ref sa, .ref pa, .ref ha, .int (nI (ps - 1)), .int v4, .ref xa, .int v6, .int v7, .int v8, .int v9, .int v10, .int v11, .int v12, .ref ta])), (sa, .inl (dA 0, 718, .inl (cpi f g (ps - 1) i))), (pa, .inl (dA 0, 2872, .inl g)), (ha, .inl (dA 0, 718, .inl h)), (xa, .inl (dA 0, 60, .inl tx)), (ta, .inl (dA 0, 3, .inl td))] H ∧ va_D A [(m0, .inr (4, [.ref sa, .ref pa, .ref ha, .int (nI (ps - 1)), .int v4, .ref xa, .int v6, .int v7, .int v8, .int v9, .int v10, .int v11, .int v12, .ref ta])), (sa, .inl (dA 0, 718, .inl (cpi f g (ps - 1) i))), (pa, .inl (dA 0, 2872, .inl g)), (ha, .inl (dA 0, 718, .inl h)), (xa, .inl (dA 0, 60, .inl tx)), (ta, .inl (dA 0, 3, .inl td))] ∧ va_S A s.heap H locs ∧ lv_has ls 2 [(0, .ref m0), (1, .int (nI (i)))] ∧ i ≤ 718) (0) ⟨hP, hD.same rfl, hS, (lv_sub (l' := [(0, .ref m0), (1, .int (nI (0)))]) hl [1, 0] rfl), by omega⟩ ?_
    intro i H locs ls ⟨hP, hD, hS, hl, hi⟩ ih_22
    refine lv_iload_n hx hb dX4_undo_22 rfl (lv_at hl 1 rfl) ?_
    refine lv_sipush (v := nI (718)) hx hb dX4_undo_23 (by decide) ?_
    refine lv_icmp_ge (tgt := 56) hx hb dX4_undo_26 (by decide) (fun c_2 => ?_) (fun c_2 => ?_)
    · have c_2 := (nI_leI (by omega) (by omega)).1 c_2
      refine lv_aload_n hx hb dX4_undo_56 rfl (lv_at hl 0 rfl) ?_
      refine va_get (D := D) (ci := 4) (v := .int (nI (ps - 1))) (C := RX4) (T := TX4) (N := 14) hx hb hts in_X4 hown hK hP 0 rfl rfl 3 (by decide) (hts _ q1332) (fun _ h9 => h9) rfl dX4_undo_57 ?_
      exact z_iret (v := nI (ps - 1)) hx hb hr hS (by unfold unF aUndo; rw [if_neg hps, if_neg hps]; rw [show i = 718 by omega] at hP; exact ⟨rfl, hP⟩) (by omega) (by omega) dX4_undo_60
    · have c_2 := mt (nI_leI (by omega) (by omega)).2 c_2
      refine lv_aload_n hx hb dX4_undo_29 rfl (lv_at hl 0 rfl) ?_
      refine va_get (D := D) (ci := 4) (v := .ref sa) (C := RX4) (T := TX4) (N := 14) hx hb hts in_X4 hown hK hP 0 rfl rfl 0 (by decide) (hts _ q1329) (fun _ h9 => h9) rfl dX4_undo_30 ?_
      refine lv_iload_n hx hb dX4_undo_33 rfl (lv_at hl 1 rfl) ?_
      refine lv_aload_n hx hb dX4_undo_34 rfl (lv_at hl 0 rfl) ?_
      refine va_get (D := D) (ci := 4) (v := .ref pa) (C := RX4) (T := TX4) (N := 14) hx hb hts in_X4 hown hK hP 0 rfl rfl 1 (by decide) (hts _ q1330) (fun _ h9 => h9) rfl dX4_undo_35 ?_
      refine lv_sipush (v := nI (718)) hx hb dX4_undo_38 (by decide) ?_
      refine lv_aload_n hx hb dX4_undo_41 rfl (lv_at hl 0 rfl) ?_
      refine va_get (D := D) (ci := 4) (v := .int (nI (ps - 1))) (C := RX4) (T := TX4) (N := 14) hx hb hts in_X4 hown hK hP 0 rfl rfl 3 (by decide) (hts _ q1332) (fun _ h9 => h9) rfl dX4_undo_42 ?_
      refine lv_imul hx hb dX4_undo_45 ?_
      refine lv_tope (y := nI (718 * (ps - 1))) (pk_mul _ _) ?_
      refine lv_iload_n hx hb dX4_undo_46 rfl (lv_at hl 1 rfl) ?_
      refine lv_iadd hx hb dX4_undo_47 ?_
      refine lv_tope (y := nI ((718 * (ps - 1)) + i)) (nI_add _ _) ?_
      refine va_iald hx hb hK hP 2 0 rfl rfl (vp_in_nI (by omega) (by omega)) dX4_undo_48 ?_
      refine lv_tope (y := g ((718 * (ps - 1)) + i)) (by rw [nI_clamp (by omega)]) ?_
      refine va_iast hx hb hK hP hD hS 1 0 rfl rfl (vp_in_nI (by omega) (by omega)) dX4_undo_49 (fun H locs hP hD hS => ?_)
      rw [nI_clamp (by omega)] at hP hD
      have hP : va_P D vwCl [(m0, .inr (4, [.ref sa, .ref pa, .ref ha, .int (nI (ps - 1)), .int v4, .ref xa, .int v6, .int v7, .int v8, .int v9, .int v10, .int v11, .int v12, .ref ta])), (sa, .inl (dA 0, 718, .inl (upd (cpi f g (ps - 1) i) i (g ((718 * (ps - 1)) + i))))), (pa, .inl (dA 0, 2872, .inl g)), (ha, .inl (dA 0, 718, .inl h)), (xa, .inl (dA 0, 60, .inl tx)), (ta, .inl (dA 0, 3, .inl td))] H := hP
      have hD : va_D A [(m0, .inr (4, [.ref sa, .ref pa, .ref ha, .int (nI (ps - 1)), .int v4, .ref xa, .int v6, .int v7, .int v8, .int v9, .int v10, .int v11, .int v12, .ref ta])), (sa, .inl (dA 0, 718, .inl (upd (cpi f g (ps - 1) i) i (g ((718 * (ps - 1)) + i))))), (pa, .inl (dA 0, 2872, .inl g)), (ha, .inl (dA 0, 718, .inl h)), (xa, .inl (dA 0, 60, .inl tx)), (ta, .inl (dA 0, 3, .inl td))] := hD
      rw [show (upd (cpi f g (ps - 1) i) i (g ((718 * (ps - 1)) + i)) : Nat → Int32) = cpi f g (ps - 1) (i + 1) from cpi_step _ _ _ _] at hP hD
      refine lv_iinc (v := nI (i + 1)) (lv' := [(1, .int (nI (i + 1))), (0, .ref m0)]) hx hb dX4_undo_50 hl (k := 1) rfl (nI_add _ _) (by decide) rfl (fun ls hl => ?_)
      refine lv_goto (tgt := 22) hx hb dX4_undo_53 (by decide) ?_
      exact ih_22 (i + 1) H locs ls ⟨hP, hD.same rfl, hS, (lv_sub (l' := [(0, .ref m0), (1, .int (nI ((i + 1))))]) hl [1, 0] rfl), by omega⟩ (by omega)
  · have c_1 := (nI_eq (by omega) (by omega)).1 (show nI _ = nI 0 from c_1)
    refine lv_ldc (v := (-1000002)) hx hb hown (hts _ q1383) dX4_undo_7 ?_
    exact z_iret (v := (-1000002)) hx hb hr hS (by unfold unF aUndo; rw [if_pos (by assumption), if_pos (by assumption)]; rw [show ps - 1 = ps by omega]; exact ⟨rfl, hP⟩) (by omega) (by omega) dX4_undo_9

set_option maxHeartbeats 4000000 in
set_option maxRecDepth 100000 in
theorem mX4_copies (l : Launch) (D : va_G) (dA : Nat → ClassId) (ad : Nat → Nat) (A : Nat → Prop) (sz : Nat) (fa : Nat) (ta : Nat) (x : Nat → Int32) (y : Nat → Int32) (hA : ∀ q, sz ≤ q → A q) (hD : va_D A [(fa, .inl (dA 0, 718, .inl x)), (ta, .inl (dA 0, 718, .inl y))]) : Met l yX4_copies (ws_ yX4_copies cX4_copies 3 none) ({ frames := 0, cells := 0, slots := 0, locals := 0 }) (va_Pc [.ref fa, .ref ta] (zP D dA ad A sz (fun H => va_P D vwCl [(fa, .inl (dA 0, 718, .inl x)), (ta, .inl (dA 0, 718, .inl y))] H))) (zQv (fun H => True ∧ va_P D vwCl [(fa, .inl (dA 0, 718, .inl x)), (ta, .inl (dA 0, 718, .inl (cp1 x y 718)))] H) A) (0) (0) A := by
  refine Met.ofW (cc := cX4_copies) (maxL := 3) (ret := none) (by decide) rfl ?_
  intro p e s m args below meth c s₁ B hml hv
  obtain ⟨rfl, hsz, hC, hP⟩ := hv
  have hx := B.exec
  have hb := B.bytes
  have hr := B.returns
  have hts := atoms_spec (ws := ws_ yX4_copies cX4_copies 3 none) B.pre
  have hts : ∀ w ∈ lw_all, w.before _ s = true := fun w h => hts w (List.mem_cons_of_mem _ h)
  have hown : s.vm.findClass RX4 = some m.cls := findClass_of_methodNamed B.named
  have hlocks := B.notSynchronized
  subst hsz
  have hK := hC.K
  have hS : va_S A s.heap s.heap [] := va_S.rf
  have hP : va_P D vwCl [(fa, .inl (dA 0, 718, .inl x)), (ta, .inl (dA 0, 718, .inl y))] s.heap := hP
  have hl := lv_entry ([.ref fa, .ref ta]) (n := 3) (Nat.le_of_ble_eq_true rfl)
  rw [lg_entry_eq]
  generalize (lg_sl ([.ref fa, .ref ta]) ++ List.replicate (3 - (lg_sl ([.ref fa, .ref ta])).length) Slot.unset).toArray = ls at hl ⊢
  have hl : lv_has ls 3 [(0, .ref fa), (1, .ref ta)] := hl
  rw [show (y : Nat → Int32) = cp1 x y 0 from cp1_0 _ _] at hP hD
  refine lv_iconst (v := nI (0)) hx hb dX4_copies_0 (by decide) ?_
  refine lv_istore_n (lv' := [(2, .int (nI (0))), (0, .ref fa), (1, .ref ta)]) hx hb dX4_copies_1 rfl hl (by decide) rfl (fun ls hl => ?_)
  refine z_loop (σ := Nat) (fun i => 718 - i) (fun i H locs ls => va_P D vwCl [(fa, .inl (dA 0, 718, .inl x)), (ta, .inl (dA 0, 718, .inl (cp1 x y i)))] H ∧ va_D A [(fa, .inl (dA 0, 718, .inl x)), (ta, .inl (dA 0, 718, .inl (cp1 x y i)))] ∧ va_S A s.heap H locs ∧ lv_has ls 3 [(0, .ref fa), (1, .ref ta), (2, .int (nI (i)))] ∧ i ≤ 718) (0) ⟨hP, hD.same rfl, hS, (lv_sub (l' := [(0, .ref fa), (1, .ref ta), (2, .int (nI (0)))]) hl [1, 2, 0] rfl), by omega⟩ ?_
  intro i H locs ls ⟨hP, hD, hS, hl, hi⟩ ih_2
  refine lv_iload_n hx hb dX4_copies_2 rfl (lv_at hl 2 rfl) ?_
  refine lv_sipush (v := nI (718)) hx hb dX4_copies_3 (by decide) ?_
  refine lv_icmp_ge (tgt := 21) hx hb dX4_copies_6 (by decide) (fun c_1 => ?_) (fun c_1 => ?_)
  · have c_1 := (nI_leI (by omega) (by omega)).1 c_1
    exact z_vret hx hb hr hS (by rw [show i = 718 by omega] at hP; exact ⟨trivial, hP⟩) (by omega) (by omega) dX4_copies_21
  · have c_1 := mt (nI_leI (by omega) (by omega)).2 c_1
    refine lv_aload_n hx hb dX4_copies_9 rfl (lv_at hl 1 rfl) ?_
    refine lv_iload_n hx hb dX4_copies_10 rfl (lv_at hl 2 rfl) ?_
    refine lv_aload_n hx hb dX4_copies_11 rfl (lv_at hl 0 rfl) ?_
    refine lv_iload_n hx hb dX4_copies_12 rfl (lv_at hl 2 rfl) ?_
    refine va_iald hx hb hK hP 0 0 rfl rfl (vp_in_nI (by omega) (by omega)) dX4_copies_13 ?_
    refine lv_tope (y := x i) (by rw [nI_clamp (by omega)]) ?_
    refine va_iast hx hb hK hP hD hS 1 0 rfl rfl (vp_in_nI (by omega) (by omega)) dX4_copies_14 (fun H locs hP hD hS => ?_)
    rw [nI_clamp (by omega)] at hP hD
    have hP : va_P D vwCl [(fa, .inl (dA 0, 718, .inl x)), (ta, .inl (dA 0, 718, .inl (upd (cp1 x y i) i (x i))))] H := hP
    have hD : va_D A [(fa, .inl (dA 0, 718, .inl x)), (ta, .inl (dA 0, 718, .inl (upd (cp1 x y i) i (x i))))] := hD
    rw [show (upd (cp1 x y i) i (x i) : Nat → Int32) = cp1 x y (i + 1) from cp1_step _ _ _] at hP hD
    refine lv_iinc (v := nI (i + 1)) (lv' := [(2, .int (nI (i + 1))), (0, .ref fa), (1, .ref ta)]) hx hb dX4_copies_15 hl (k := 2) rfl (nI_add _ _) (by decide) rfl (fun ls hl => ?_)
    refine lv_goto (tgt := 2) hx hb dX4_copies_18 (by decide) ?_
    exact ih_2 (i + 1) H locs ls ⟨hP, hD.same rfl, hS, (lv_sub (l' := [(0, .ref fa), (1, .ref ta), (2, .int (nI ((i + 1))))]) hl [1, 2, 0] rfl), by omega⟩ (by omega)

set_option maxHeartbeats 4000000 in
set_option maxRecDepth 100000 in
theorem mX4_type (l : Launch) (D : va_G) (dA : Nat → ClassId) (ad : Nat → Nat) (A : Nat → Prop) (sz : Nat) (m0 : Nat) (sa : Nat) (pa : Nat) (ha : Nat) (xa : Nat) (ta : Nat) (v4 : Int32) (v7 : Int32) (v8 : Int32) (v9 : Int32) (v10 : Int32) (v11 : Int32) (v12 : Int32) (f : Nat → Int32) (ps : Nat) (g : Nat → Int32) (h : Nat → Int32) (tx : Nat → Int32) (td : Nat → Int32) (ty : Nat) (ch : Int32) (hA : ∀ q, sz ≤ q → A q) (hty : ty ≤ 60) (hD : va_D A [(m0, .inr (4, [.ref sa, .ref pa, .ref ha, .int (nI (ps)), .int v4, .ref xa, .int (nI (ty)), .int v7, .int v8, .int v9, .int v10, .int v11, .int v12, .ref ta])), (sa, .inl (dA 0, 718, .inl f)), (pa, .inl (dA 0, 2872, .inl g)), (ha, .inl (dA 0, 718, .inl h)), (xa, .inl (dA 0, 60, .inl tx)), (ta, .inl (dA 0, 3, .inl td))]) : Met l yX4_type (ws_ yX4_type cX4_type 2 (some .int)) ({ frames := 1, cells := 0, slots := 0, locals := 30 }) (va_Pc [.ref m0, .int ch] (zP D dA ad A sz (fun H => va_P D vwCl [(m0, .inr (4, [.ref sa, .ref pa, .ref ha, .int (nI (ps)), .int v4, .ref xa, .int (nI (ty)), .int v7, .int v8, .int v9, .int v10, .int v11, .int v12, .ref ta])), (sa, .inl (dA 0, 718, .inl f)), (pa, .inl (dA 0, 2872, .inl g)), (ha, .inl (dA 0, 718, .inl h)), (xa, .inl (dA 0, 60, .inl tx)), (ta, .inl (dA 0, 3, .inl td))] H))) (zQi (fun rz H => rz = aType ty ch ∧ va_P D vwCl [(m0, .inr (4, [.ref sa, .ref pa, .ref ha, .int (nI (ps)), .int v4, .ref xa, .int (nI (tyN ty ch)), .int v7, .int v8, .int v9, .int v10, .int v11, .int v12, .ref ta])), (sa, .inl (dA 0, 718, .inl f)), (pa, .inl (dA 0, 2872, .inl g)), (ha, .inl (dA 0, 718, .inl h)), (xa, .inl (dA 0, 60, .inl (tyT tx ty ch))), (ta, .inl (dA 0, 3, .inl td))] H) A) (0) (0) A := by
  refine Met.ofW (cc := cX4_type) (maxL := 2) (ret := (some .int)) (by decide) rfl ?_
  intro p e s m args below meth c s₁ B hml hv
  obtain ⟨rfl, hsz, hC, hP⟩ := hv
  have hx := B.exec
  have hb := B.bytes
  have hr := B.returns
  have hts := atoms_spec (ws := ws_ yX4_type cX4_type 2 (some .int)) B.pre
  have hts : ∀ w ∈ lw_all, w.before _ s = true := fun w h => hts w (List.mem_cons_of_mem _ h)
  have hown : s.vm.findClass RX4 = some m.cls := findClass_of_methodNamed B.named
  have hlocks := B.notSynchronized
  subst hsz
  have hK := hC.K
  have hS : va_S A s.heap s.heap [] := va_S.rf
  have hP : va_P D vwCl [(m0, .inr (4, [.ref sa, .ref pa, .ref ha, .int (nI (ps)), .int v4, .ref xa, .int (nI (ty)), .int v7, .int v8, .int v9, .int v10, .int v11, .int v12, .ref ta])), (sa, .inl (dA 0, 718, .inl f)), (pa, .inl (dA 0, 2872, .inl g)), (ha, .inl (dA 0, 718, .inl h)), (xa, .inl (dA 0, 60, .inl tx)), (ta, .inl (dA 0, 3, .inl td))] s.heap := hP
  have hl := lv_entry ([.ref m0, .int ch]) (n := 2) (Nat.le_of_ble_eq_true rfl)
  rw [lg_entry_eq]
  generalize (lg_sl ([.ref m0, .int ch]) ++ List.replicate (2 - (lg_sl ([.ref m0, .int ch])).length) Slot.unset).toArray = ls at hl ⊢
  have hl : lv_has ls 2 [(0, .ref m0), (1, .int ch)] := hl
  refine lv_iload_n hx hb dX4_type_0 rfl (lv_at hl 1 rfl) ?_
  refine lv_bipush (v := nI (32)) hx hb dX4_type_1 (by decide) ?_
  refine lv_bipush (v := nI (126)) hx hb dX4_type_3 (by decide) ?_
  refine z_cSi (As := [.int ch, .int (nI (32)), .int (nI (126))]) (rest := []) ⟨hx, hb, hml, hown, hts⟩ (mX4_in l D dA ad s.heap.size ch (nI (32)) (nI (126))) (va_cwS 3 hts (lw_S q1379 q1380 q67 q1381) rfl rfl rfl (by decide +kernel) ⟨Nat.le_of_ble_eq_true rfl, Nat.le_of_ble_eq_true rfl⟩) hC hS (fun _ h => hA _ (Nat.le_trans hS.1 h)) trivial rfl rfl hl.1 (Nat.le_of_ble_eq_true rfl) dX4_type_5 ⟨Nat.le_of_ble_eq_true rfl, Nat.le_of_ble_eq_true rfl⟩ (fun r_1 H locs hQ hF hS => ?_)
  have hP := va_P.ro hF hP
  obtain rfl : bI ((nI (32)) ≤ ch ∧ ch ≤ (nI (126))) = r_1 := hQ.symm
  refine lv_if_ne (tgt := 14) hx hb dX4_type_8 (by decide) (fun c_2 => ?_) (fun c_2 => ?_)
  · have c_2 := bI_1.1 c_2
    refine lv_aload_n hx hb dX4_type_14 rfl (lv_at hl 0 rfl) ?_
    refine va_get (D := D) (ci := 4) (v := .int (nI (ty))) (C := RX4) (T := TX4) (N := 14) hx hb hts in_X4 hown hK hP 0 rfl rfl 6 (by decide) (hts _ q1335) (fun _ h9 => h9) rfl dX4_type_15 ?_
    refine lv_bipush (v := nI (60)) hx hb dX4_type_18 (by decide) ?_
    refine lv_icmp_ne (tgt := 26) hx hb dX4_type_20 (by decide) (fun c_3 => ?_) (fun c_3 => ?_)
    · have c_3 := mt (nI_eq (by omega) (by omega)).2 c_3
      refine lv_aload_n hx hb dX4_type_26 rfl (lv_at hl 0 rfl) ?_
      refine va_get (D := D) (ci := 4) (v := .ref xa) (C := RX4) (T := TX4) (N := 14) hx hb hts in_X4 hown hK hP 0 rfl rfl 5 (by decide) (hts _ q1334) (fun _ h9 => h9) rfl dX4_type_27 ?_
      refine lv_aload_n hx hb dX4_type_30 rfl (lv_at hl 0 rfl) ?_
      refine va_get (D := D) (ci := 4) (v := .int (nI (ty))) (C := RX4) (T := TX4) (N := 14) hx hb hts in_X4 hown hK hP 0 rfl rfl 6 (by decide) (hts _ q1335) (fun _ h9 => h9) rfl dX4_type_31 ?_
      refine lv_iload_n hx hb dX4_type_34 rfl (lv_at hl 1 rfl) ?_
      refine va_iast hx hb hK hP hD hS 4 0 rfl rfl (vp_in_nI (by omega) (by omega)) dX4_type_35 (fun H locs hP hD hS => ?_)
      rw [nI_clamp (by omega)] at hP hD
      have hP : va_P D vwCl [(m0, .inr (4, [.ref sa, .ref pa, .ref ha, .int (nI (ps)), .int v4, .ref xa, .int (nI (ty)), .int v7, .int v8, .int v9, .int v10, .int v11, .int v12, .ref ta])), (sa, .inl (dA 0, 718, .inl f)), (pa, .inl (dA 0, 2872, .inl g)), (ha, .inl (dA 0, 718, .inl h)), (xa, .inl (dA 0, 60, .inl (upd tx ty ch))), (ta, .inl (dA 0, 3, .inl td))] H := hP
      have hD : va_D A [(m0, .inr (4, [.ref sa, .ref pa, .ref ha, .int (nI (ps)), .int v4, .ref xa, .int (nI (ty)), .int v7, .int v8, .int v9, .int v10, .int v11, .int v12, .ref ta])), (sa, .inl (dA 0, 718, .inl f)), (pa, .inl (dA 0, 2872, .inl g)), (ha, .inl (dA 0, 718, .inl h)), (xa, .inl (dA 0, 60, .inl (upd tx ty ch))), (ta, .inl (dA 0, 3, .inl td))] := hD
      refine lv_aload_n hx hb dX4_type_36 rfl (lv_at hl 0 rfl) ?_
      refine lv_dup hx hb dX4_type_37 rfl ?_
      refine va_get (D := D) (ci := 4) (v := .int (nI (ty))) (C := RX4) (T := TX4) (N := 14) hx hb hts in_X4 hown hK hP 0 rfl rfl 6 (by decide) (hts _ q1335) (fun _ h9 => h9) rfl dX4_type_38 ?_
      refine lv_iconst (v := nI (1)) hx hb dX4_type_41 (by decide) ?_
      refine lv_iadd hx hb dX4_type_42 ?_
      refine lv_tope (y := nI (ty + 1)) (nI_add _ _) ?_
      refine va_put (D := D) (ci := 4) (v := .int (nI (ty + 1))) (ty := .int) (C := RX4) (T := TX4) (N := 14) hx hb hts in_X4 tyX4 tyX4_ok nmX4 hown hK hP hD hS 0 rfl rfl 6 (by decide) (hts _ q1335) (fun _ h9 => h9) rfl (by decide +kernel) rfl rfl (Nat.le_of_ble_eq_true rfl) dX4_type_43 (fun H locs hP hD hS => ?_)
      have hP : va_P D vwCl [(m0, .inr (4, [.ref sa, .ref pa, .ref ha, .int (nI (ps)), .int v4, .ref xa, .int (nI (ty + 1)), .int v7, .int v8, .int v9, .int v10, .int v11, .int v12, .ref ta])), (sa, .inl (dA 0, 718, .inl f)), (pa, .inl (dA 0, 2872, .inl g)), (ha, .inl (dA 0, 718, .inl h)), (xa, .inl (dA 0, 60, .inl (upd tx ty ch))), (ta, .inl (dA 0, 3, .inl td))] H := hP
      have hD : va_D A [(m0, .inr (4, [.ref sa, .ref pa, .ref ha, .int (nI (ps)), .int v4, .ref xa, .int (nI (ty + 1)), .int v7, .int v8, .int v9, .int v10, .int v11, .int v12, .ref ta])), (sa, .inl (dA 0, 718, .inl f)), (pa, .inl (dA 0, 2872, .inl g)), (ha, .inl (dA 0, 718, .inl h)), (xa, .inl (dA 0, 60, .inl (upd tx ty ch))), (ta, .inl (dA 0, 3, .inl td))] := hD
      refine lv_aload_n hx hb dX4_type_46 rfl (lv_at hl 0 rfl) ?_
      refine va_get (D := D) (ci := 4) (v := .int (nI (ty + 1))) (C := RX4) (T := TX4) (N := 14) hx hb hts in_X4 hown hK hP 0 rfl rfl 6 (by decide) (hts _ q1335) (fun _ h9 => h9) rfl dX4_type_47 ?_
      exact z_iret (v := nI (ty + 1)) hx hb hr hS (by unfold aType tyT tyN; rw [if_pos (by assumption), if_neg (by assumption), if_pos (by assumption), if_neg (by assumption), if_pos (by assumption), if_neg (by assumption)]; exact ⟨rfl, hP⟩) (by omega) (by omega) dX4_type_50
    · have c_3 := (nI_eq (by omega) (by omega)).1 c_3
      refine lv_ldc (v := (-1000003)) hx hb hown (hts _ q1399) dX4_type_23 ?_
      exact z_iret (v := (-1000003)) hx hb hr hS (by unfold aType tyT tyN; rw [if_pos (by assumption), if_pos (by assumption), if_pos (by assumption), if_pos (by assumption), if_pos (by assumption), if_pos (by assumption)]; exact ⟨rfl, hP⟩) (by omega) (by omega) dX4_type_25
  · have c_2 := bI_0.1 c_2
    refine lv_ldc (v := (-1000001)) hx hb hown (hts _ q1382) dX4_type_11 ?_
    exact z_iret (v := (-1000001)) hx hb hr hS (by unfold aType tyT tyN; rw [if_neg (by assumption), if_neg (by assumption), if_neg (by assumption)]; exact ⟨rfl, hP⟩) (by omega) (by omega) dX4_type_13

set_option maxHeartbeats 4000000 in
set_option maxRecDepth 100000 in
theorem mX4_clearText (l : Launch) (D : va_G) (dA : Nat → ClassId) (ad : Nat → Nat) (A : Nat → Prop) (sz : Nat) (m0 : Nat) (sa : Nat) (pa : Nat) (ha : Nat) (xa : Nat) (ta : Nat) (v4 : Int32) (v7 : Int32) (v8 : Int32) (v9 : Int32) (v10 : Int32) (v11 : Int32) (v12 : Int32) (f : Nat → Int32) (ps : Nat) (g : Nat → Int32) (h : Nat → Int32) (tx : Nat → Int32) (td : Nat → Int32) (ty : Nat) (hA : ∀ q, sz ≤ q → A q) (hD : va_D A [(m0, .inr (4, [.ref sa, .ref pa, .ref ha, .int (nI (ps)), .int v4, .ref xa, .int (nI (ty)), .int v7, .int v8, .int v9, .int v10, .int v11, .int v12, .ref ta])), (sa, .inl (dA 0, 718, .inl f)), (pa, .inl (dA 0, 2872, .inl g)), (ha, .inl (dA 0, 718, .inl h)), (xa, .inl (dA 0, 60, .inl tx)), (ta, .inl (dA 0, 3, .inl td))]) : Met l yX4_clearText (ws_ yX4_clearText cX4_clearText 2 (some .int)) ({ frames := 0, cells := 0, slots := 0, locals := 0 }) (va_Pc [.ref m0] (zP D dA ad A sz (fun H => va_P D vwCl [(m0, .inr (4, [.ref sa, .ref pa, .ref ha, .int (nI (ps)), .int v4, .ref xa, .int (nI (ty)), .int v7, .int v8, .int v9, .int v10, .int v11, .int v12, .ref ta])), (sa, .inl (dA 0, 718, .inl f)), (pa, .inl (dA 0, 2872, .inl g)), (ha, .inl (dA 0, 718, .inl h)), (xa, .inl (dA 0, 60, .inl tx)), (ta, .inl (dA 0, 3, .inl td))] H))) (zQi (fun rz H => rz = nI (ty) ∧ va_P D vwCl [(m0, .inr (4, [.ref sa, .ref pa, .ref ha, .int (nI (ps)), .int v4, .ref xa, .int (nI (0)), .int v7, .int v8, .int v9, .int v10, .int v11, .int v12, .ref ta])), (sa, .inl (dA 0, 718, .inl f)), (pa, .inl (dA 0, 2872, .inl g)), (ha, .inl (dA 0, 718, .inl h)), (xa, .inl (dA 0, 60, .inl tx)), (ta, .inl (dA 0, 3, .inl td))] H) A) (0) (0) A := by
  refine Met.ofW (cc := cX4_clearText) (maxL := 2) (ret := (some .int)) (by decide) rfl ?_
  intro p e s m args below meth c s₁ B hml hv
  obtain ⟨rfl, hsz, hC, hP⟩ := hv
  have hx := B.exec
  have hb := B.bytes
  have hr := B.returns
  have hts := atoms_spec (ws := ws_ yX4_clearText cX4_clearText 2 (some .int)) B.pre
  have hts : ∀ w ∈ lw_all, w.before _ s = true := fun w h => hts w (List.mem_cons_of_mem _ h)
  have hown : s.vm.findClass RX4 = some m.cls := findClass_of_methodNamed B.named
  have hlocks := B.notSynchronized
  subst hsz
  have hK := hC.K
  have hS : va_S A s.heap s.heap [] := va_S.rf
  have hP : va_P D vwCl [(m0, .inr (4, [.ref sa, .ref pa, .ref ha, .int (nI (ps)), .int v4, .ref xa, .int (nI (ty)), .int v7, .int v8, .int v9, .int v10, .int v11, .int v12, .ref ta])), (sa, .inl (dA 0, 718, .inl f)), (pa, .inl (dA 0, 2872, .inl g)), (ha, .inl (dA 0, 718, .inl h)), (xa, .inl (dA 0, 60, .inl tx)), (ta, .inl (dA 0, 3, .inl td))] s.heap := hP
  have hl := lv_entry ([.ref m0]) (n := 2) (Nat.le_of_ble_eq_true rfl)
  rw [lg_entry_eq]
  generalize (lg_sl ([.ref m0]) ++ List.replicate (2 - (lg_sl ([.ref m0])).length) Slot.unset).toArray = ls at hl ⊢
  have hl : lv_has ls 2 [(0, .ref m0)] := hl
  refine lv_aload_n hx hb dX4_clearText_0 rfl (lv_at hl 0 rfl) ?_
  refine va_get (D := D) (ci := 4) (v := .int (nI (ty))) (C := RX4) (T := TX4) (N := 14) hx hb hts in_X4 hown hK hP 0 rfl rfl 6 (by decide) (hts _ q1335) (fun _ h9 => h9) rfl dX4_clearText_1 ?_
  refine lv_istore_n (lv' := [(1, .int (nI (ty))), (0, .ref m0)]) hx hb dX4_clearText_4 rfl hl (by decide) rfl (fun ls hl => ?_)
  refine lv_aload_n hx hb dX4_clearText_5 rfl (lv_at hl 1 rfl) ?_
  refine lv_iconst (v := nI (0)) hx hb dX4_clearText_6 (by decide) ?_
  refine va_put (D := D) (ci := 4) (v := .int (nI (0))) (ty := .int) (C := RX4) (T := TX4) (N := 14) hx hb hts in_X4 tyX4 tyX4_ok nmX4 hown hK hP hD hS 0 rfl rfl 6 (by decide) (hts _ q1335) (fun _ h9 => h9) rfl (by decide +kernel) rfl rfl (Nat.le_of_ble_eq_true rfl) dX4_clearText_7 (fun H locs hP hD hS => ?_)
  have hP : va_P D vwCl [(m0, .inr (4, [.ref sa, .ref pa, .ref ha, .int (nI (ps)), .int v4, .ref xa, .int (nI (0)), .int v7, .int v8, .int v9, .int v10, .int v11, .int v12, .ref ta])), (sa, .inl (dA 0, 718, .inl f)), (pa, .inl (dA 0, 2872, .inl g)), (ha, .inl (dA 0, 718, .inl h)), (xa, .inl (dA 0, 60, .inl tx)), (ta, .inl (dA 0, 3, .inl td))] H := hP
  have hD : va_D A [(m0, .inr (4, [.ref sa, .ref pa, .ref ha, .int (nI (ps)), .int v4, .ref xa, .int (nI (0)), .int v7, .int v8, .int v9, .int v10, .int v11, .int v12, .ref ta])), (sa, .inl (dA 0, 718, .inl f)), (pa, .inl (dA 0, 2872, .inl g)), (ha, .inl (dA 0, 718, .inl h)), (xa, .inl (dA 0, 60, .inl tx)), (ta, .inl (dA 0, 3, .inl td))] := hD
  refine lv_iload_n hx hb dX4_clearText_10 rfl (lv_at hl 0 rfl) ?_
  exact z_iret (v := nI (ty)) hx hb hr hS (⟨rfl, hP⟩) (by omega) (by omega) dX4_clearText_11

set_option maxHeartbeats 4000000 in
set_option maxRecDepth 100000 in
theorem mX4_rateFor (l : Launch) (D : va_G) (dA : Nat → ClassId) (ad : Nat → Nat) (sz : Nat) (m0 : Nat) (sa : Nat) (pa : Nat) (ha : Nat) (xa : Nat) (ta : Nat) (v3 : Int32) (v4 : Int32) (v6 : Int32) (v7 : Int32) (v8 : Int32) (v9 : Int32) (v10 : Int32) (v11 : Int32) (v12 : Int32) (f : Nat → Int32) (sb : Int32) (t0 : Int32) (hI : InvA f) : Met l yX4_rateFor (ws_ yX4_rateFor cX4_rateFor 6 (some .int)) ({ frames := 4, cells := 0, slots := 0, locals := 120 }) (va_Pc [.ref m0, .int sb, .int t0] (zP D dA ad (fun q => sz ≤ q) sz (fun H => va_P D vwCl [(m0, .inr (4, [.ref sa, .ref pa, .ref ha, .int v3, .int v4, .ref xa, .int v6, .int v7, .int v8, .int v9, .int v10, .int v11, .int v12, .ref ta])), (sa, .inl (dA 0, 718, .inl f))] H))) (zQi (fun rz H => rz = aRateFor f sb t0) (fun q => sz ≤ q)) (0) (0) (fun q => sz ≤ q) := by
  refine Met.ofW (cc := cX4_rateFor) (maxL := 6) (ret := (some .int)) (by decide) rfl ?_
  intro p e s m args below meth c s₁ B hml hv
  obtain ⟨rfl, hsz, hC, hP⟩ := hv
  have hx := B.exec
  have hb := B.bytes
  have hr := B.returns
  have hts := atoms_spec (ws := ws_ yX4_rateFor cX4_rateFor 6 (some .int)) B.pre
  have hts : ∀ w ∈ lw_all, w.before _ s = true := fun w h => hts w (List.mem_cons_of_mem _ h)
  have hown : s.vm.findClass RX4 = some m.cls := findClass_of_methodNamed B.named
  have hlocks := B.notSynchronized
  subst hsz
  have hK := hC.K
  have hA : ∀ q : Nat, s.heap.size ≤ q → s.heap.size ≤ q := fun _ h => h
  have hS : va_S (fun q => s.heap.size ≤ q) s.heap s.heap [] := va_S.rf
  have hP : va_P D vwCl [(m0, .inr (4, [.ref sa, .ref pa, .ref ha, .int v3, .int v4, .ref xa, .int v6, .int v7, .int v8, .int v9, .int v10, .int v11, .int v12, .ref ta])), (sa, .inl (dA 0, 718, .inl f))] s.heap := hP
  have hI0 := hI
  obtain ⟨hf0, hn, hsb, hrt, hrt2⟩ := hI
  have hl := lv_entry ([.ref m0, .int sb, .int t0]) (n := 6) (Nat.le_of_ble_eq_true rfl)
  rw [lg_entry_eq]
  generalize (lg_sl ([.ref m0, .int sb, .int t0]) ++ List.replicate (6 - (lg_sl ([.ref m0, .int sb, .int t0])).length) Slot.unset).toArray = ls at hl ⊢
  have hl : lv_has ls 6 [(0, .ref m0), (1, .int sb), (2, .int t0)] := hl
  refine lv_iload_n hx hb dX4_rateFor_0 rfl (lv_at hl 1 rfl) ?_
  refine z_cSi (As := [.int sb]) (rest := []) ⟨hx, hb, hml, hown, hts⟩ (mX4_isStandby l D dA ad s.heap.size sb) (va_cwS 1 hts (lw_S q1417 q1418 q67 q1419) rfl rfl rfl (by decide +kernel) ⟨Nat.le_of_ble_eq_true rfl, Nat.le_of_ble_eq_true rfl⟩) hC hS (fun _ h => hA _ (Nat.le_trans hS.1 h)) trivial rfl rfl hl.1 (Nat.le_of_ble_eq_true rfl) dX4_rateFor_1 ⟨Nat.le_of_ble_eq_true rfl, Nat.le_of_ble_eq_true rfl⟩ (fun r_1 H locs hQ hF hS => ?_)
  have hP := va_P.ro hF hP
  obtain rfl : bI (nI (0) ≤ sb ∧ sb ≤ nI (1)) = r_1 := hQ.symm
  refine lv_if_eq (tgt := 17) hx hb dX4_rateFor_4 (by decide) (fun c_2 => ?_) (fun c_2 => ?_)
  · have c_2 := bI_0.1 c_2
    refine lv_ldc (v := (-1000001)) hx hb hown (hts _ q1382) dX4_rateFor_17 ?_
    exact z_iret (v := (-1000001)) hx hb hr hS (by unfold aRateFor; (repeat' split) <;> first | rfl | contradiction | (exfalso; simp_all; done)) (by omega) (by omega) dX4_rateFor_19
  · have c_2 := bI_1.1 c_2
    obtain ⟨b, h1, rfl⟩ := zr_of (N := 1) c_2 (by decide)
    have h1 : b < 2 := (by omega)
    obtain ⟨hrc, hap, har, hrl⟩ := hsb b h1
    refine lv_iload_n hx hb dX4_rateFor_7 rfl (lv_at hl 2 rfl) ?_
    refine lv_iconst (v := nI (1)) hx hb dX4_rateFor_8 (by decide) ?_
    refine lv_bipush (v := nI (99)) hx hb dX4_rateFor_9 (by decide) ?_
    refine z_cSi (As := [.int t0, .int (nI (1)), .int (nI (99))]) (rest := []) ⟨hx, hb, hml, hown, hts⟩ (mX4_in l D dA ad H.size t0 (nI (1)) (nI (99))) (va_cwS 3 hts (lw_S q1379 q1380 q67 q1381) rfl rfl rfl (by decide +kernel) ⟨Nat.le_of_ble_eq_true rfl, Nat.le_of_ble_eq_true rfl⟩) hC hS (fun _ h => hA _ (Nat.le_trans hS.1 h)) trivial rfl rfl hl.1 (Nat.le_of_ble_eq_true rfl) dX4_rateFor_11 ⟨Nat.le_of_ble_eq_true rfl, Nat.le_of_ble_eq_true rfl⟩ (fun r_3 H locs hQ hF hS => ?_)
    have hP := va_P.ro hF hP
    obtain rfl : bI ((nI (1)) ≤ t0 ∧ t0 ≤ (nI (99))) = r_3 := hQ.symm
    refine lv_if_ne (tgt := 20) hx hb dX4_rateFor_14 (by decide) (fun c_4 => ?_) (fun c_4 => ?_)
    · have c_4 := bI_1.1 c_4
      obtain ⟨t, ht, rfl⟩ := zr_of (N := 99) ⟨Int32.le_trans (by decide) c_4.1, c_4.2⟩ (by decide)
      have ht0 := (nI_leI (by omega) (by omega)).1 c_4.1
      refine lv_aload_n hx hb dX4_rateFor_20 rfl (lv_at hl 0 rfl) ?_
      refine lv_iload_n hx hb dX4_rateFor_21 rfl (lv_at hl 1 rfl) ?_
      refine lv_iconst (v := nI (2)) hx hb dX4_rateFor_22 (by decide) ?_
      refine z_cVi (As := [.int (nI (b)), .int (nI (2))]) (rest := []) ⟨hx, hb, hml, hown, hts⟩ (mX4_ofStandby l D dA ad H.size m0 sa pa ha xa ta v3 v4 v6 v7 v8 v9 v10 v11 v12 f b 2 (by omega) (by omega)) (cwV 2 hts (lw_V q1420 q1422 qs30 q67 q1423) rfl rfl rfl (by decide +kernel) ⟨Nat.le_of_ble_eq_true rfl, Nat.le_of_ble_eq_true rfl⟩) hC hS (fun _ h => hA _ (Nat.le_trans hS.1 h)) (hP.sub (ws' := [(m0, .inr (4, [.ref sa, .ref pa, .ref ha, .int v3, .int v4, .ref xa, .int v6, .int v7, .int v8, .int v9, .int v10, .int v11, .int v12, .ref ta])), (sa, .inl (dA 0, 718, .inl f))]) [0, 1] rfl) (va_recv hK hP (ci := 4) (q0 := 0) rfl rfl) rfl rfl hl.1 (Nat.le_of_ble_eq_true rfl) dX4_rateFor_23 ⟨Nat.le_of_ble_eq_true rfl, Nat.le_of_ble_eq_true rfl⟩ (fun r_5 H locs hQ hF hS => ?_)
      have hP := va_P.ro hF hP
      obtain rfl : sbf f b 2 = r_5 := hQ.symm
      refine lv_iconst (v := nI (1)) hx hb dX4_rateFor_26 (by decide) ?_
      refine lv_icmp_ne (tgt := 33) hx hb dX4_rateFor_27 (by decide) (fun c_6 => ?_) (fun c_6 => ?_)
      · refine lv_aload_n hx hb dX4_rateFor_33 rfl (lv_at hl 0 rfl) ?_
        refine lv_iload_n hx hb dX4_rateFor_34 rfl (lv_at hl 1 rfl) ?_
        refine z_cVi (As := [.int (nI (b))]) (rest := []) ⟨hx, hb, hml, hown, hts⟩ (mX4_lowestGap l D dA ad H.size m0 sa pa ha xa ta v3 v4 v6 v7 v8 v9 v10 v11 v12 f b (by omega)) (cwV 1 hts (lw_V q1524 q1526 qs44 q67 q1527) rfl rfl rfl (by decide +kernel) ⟨Nat.le_of_ble_eq_true rfl, Nat.le_of_ble_eq_true rfl⟩) hC hS (fun _ h => hA _ (Nat.le_trans hS.1 h)) (hP.sub (ws' := [(m0, .inr (4, [.ref sa, .ref pa, .ref ha, .int v3, .int v4, .ref xa, .int v6, .int v7, .int v8, .int v9, .int v10, .int v11, .int v12, .ref ta])), (sa, .inl (dA 0, 718, .inl f))]) [0, 1] rfl) (va_recv hK hP (ci := 4) (q0 := 0) rfl rfl) rfl rfl hl.1 (Nat.le_of_ble_eq_true rfl) dX4_rateFor_35 ⟨Nat.le_of_ble_eq_true rfl, Nat.le_of_ble_eq_true rfl⟩ (fun r_7 H locs hQ hF hS => ?_)
        have hP := va_P.ro hF hP
        obtain rfl : lowG f b = r_7 := hQ.symm
        refine lv_istore_n (lv' := [(3, .int (lowG f b)), (0, .ref m0), (1, .int (nI (b))), (2, .int (nI (t)))]) hx hb dX4_rateFor_38 rfl hl (by decide) rfl (fun ls hl => ?_)
        refine lv_iload_n hx hb dX4_rateFor_39 rfl (lv_at hl 0 rfl) ?_
        refine lv_if_ge (tgt := 52) hx hb dX4_rateFor_40 (by decide) (fun c_8 => ?_) (fun c_8 => ?_)
        · obtain ⟨hlg, hle⟩ := lowG_pos c_8
          refine lv_iload_n hx hb dX4_rateFor_52 rfl (lv_at hl 0 rfl) ?_
          refine lv_iconst (v := nI (1)) hx hb dX4_rateFor_53 (by decide) ?_
          refine lv_isub hx hb dX4_rateFor_54 ?_
          refine lv_tope (y := nI (goalN f b)) (by unfold goalN; rw [if_neg hlg, hle]; exact pk_sub (by omega)) ?_
          have hgl : goalN f b ≤ 100 := by
            have := lowGap_le f b 100 0
            unfold goalN
            split <;> omega
          refine lv_istore (lv' := [(4, .int (nI (goalN f b))), (3, .int (lowG f b)), (0, .ref m0), (1, .int (nI (b))), (2, .int (nI (t)))]) hx hb dX4_rateFor_55 hl (by decide) rfl (fun ls hl => ?_)
          refine lv_iconst (v := nI (1)) hx hb dX4_rateFor_57 (by decide) ?_
          refine lv_istore (lv' := [(5, .int (nI (1))), (4, .int (nI (goalN f b))), (3, .int (lowG f b)), (0, .ref m0), (1, .int (nI (b))), (2, .int (nI (t)))]) hx hb dX4_rateFor_58 hl (by decide) rfl (fun ls hl => ?_)
          refine z_loop (σ := Nat) (fun i => 20 - i) (fun i H locs ls => va_P D vwCl [(m0, .inr (4, [.ref sa, .ref pa, .ref ha, .int v3, .int v4, .ref xa, .int v6, .int v7, .int v8, .int v9, .int v10, .int v11, .int v12, .ref ta])), (sa, .inl (dA 0, 718, .inl f))] H ∧ va_S (fun q => s.heap.size ≤ q) s.heap H locs ∧ lv_has ls 6 [(0, .ref m0), (1, .int (nI (b))), (2, .int (nI (t))), (4, .int (nI (goalN f b))), (5, .int (nI (i + 1)))] ∧ i ≤ 20 ∧ rateN f b (goalN f b) t 20 1 = rateN f b (goalN f b) t (20 - i) (i + 1)) (0) ⟨hP, hS, (lv_sub (l' := [(0, .ref m0), (1, .int (nI (b))), (2, .int (nI (t))), (4, .int (nI (goalN f b))), (5, .int (nI (0 + 1)))]) hl [3, 4, 5, 1, 0] rfl), by omega, rfl⟩ ?_
          intro i H locs ls ⟨hP, hS, hl, hi, hra⟩ ih_60
          refine lv_iload hx hb dX4_rateFor_60 (lv_at hl 4 rfl) ?_
          refine lv_bipush (v := nI (20)) hx hb dX4_rateFor_62 (by decide) ?_
          refine lv_icmp_gt (tgt := 89) hx hb dX4_rateFor_64 (by decide) (fun c_9 => ?_) (fun c_9 => ?_)
          · have c_9 := (nI_ltI (by omega) (by omega)).1 c_9
            refine lv_ldc (v := (-1000004)) hx hb hown (hts _ q1408) dX4_rateFor_89 ?_
            exact z_iret (v := (-1000004)) hx hb hr hS (by unfold aRateFor; rw [if_pos (zr_in (j := b) (N := 1) (by omega) (by decide)), if_pos ⟨nI_le (by omega) (by omega), nI_le (by omega) (by omega)⟩, nI_clamp (show b < 2 ^ 31 by omega), nI_clamp (show t < 2 ^ 31 by omega), if_neg (by assumption), hra, show 20 - i = 0 by omega]; rfl) (by omega) (by omega) dX4_rateFor_91
          · have c_9 := mt (nI_ltI (by omega) (by omega)).2 c_9
            have hstep : rateN f b (goalN f b) t (20 - i) (i + 1) = if 0 ≤ untilN f b (goalN f b) (i + 1) (t + 1) (apN f b) 0 then nI (i + 1) else rateN f b (goalN f b) t (20 - (i + 1)) (i + 1 + 1) := by rw [show 20 - i = (20 - (i + 1)) + 1 by omega]; rfl
            refine lv_aload_n hx hb dX4_rateFor_67 rfl (lv_at hl 0 rfl) ?_
            refine lv_iload_n hx hb dX4_rateFor_68 rfl (lv_at hl 1 rfl) ?_
            refine lv_iload hx hb dX4_rateFor_69 (lv_at hl 3 rfl) ?_
            refine lv_iload hx hb dX4_rateFor_71 (lv_at hl 4 rfl) ?_
            refine lv_iload_n hx hb dX4_rateFor_73 rfl (lv_at hl 2 rfl) ?_
            refine z_cVi (As := [.int (nI (b)), .int (nI (goalN f b)), .int (nI (i + 1)), .int (nI (t))]) (rest := []) ⟨hx, hb, hml, hown, hts⟩ (mX4_until l D dA ad H.size m0 sa pa ha xa ta v3 v4 v6 v7 v8 v9 v10 v11 v12 f b (goalN f b) (i + 1) t (by omega) (hI0) (by omega) (by omega) (by omega)) (cwV 4 hts (lw_V q1540 q1542 qs46 q67 q1543) rfl rfl rfl (by decide +kernel) ⟨Nat.le_of_ble_eq_true rfl, Nat.le_of_ble_eq_true rfl⟩) hC hS (fun _ h => hA _ (Nat.le_trans hS.1 h)) (hP.sub (ws' := [(m0, .inr (4, [.ref sa, .ref pa, .ref ha, .int v3, .int v4, .ref xa, .int v6, .int v7, .int v8, .int v9, .int v10, .int v11, .int v12, .ref ta])), (sa, .inl (dA 0, 718, .inl f))]) [0, 1] rfl) (va_recv hK hP (ci := 4) (q0 := 0) rfl rfl) rfl rfl hl.1 (Nat.le_of_ble_eq_true rfl) dX4_rateFor_74 ⟨Nat.le_of_ble_eq_true rfl, Nat.le_of_ble_eq_true rfl⟩ (fun r_10 H locs hQ hF hS => ?_)
            have hP := va_P.ro hF hP
            obtain rfl : untilN f b (goalN f b) (i + 1) (t + 1) (apN f b) 0 = r_10 := hQ.symm
            refine lv_if_lt (tgt := 83) hx hb dX4_rateFor_77 (by decide) (fun c_11 => ?_) (fun c_11 => ?_)
            · refine lv_iinc (v := nI (i + 1 + 1)) (lv' := [(5, .int (nI (i + 1 + 1))), (0, .ref m0), (1, .int (nI (b))), (2, .int (nI (t))), (4, .int (nI (goalN f b)))]) hx hb dX4_rateFor_83 hl (k := 4) rfl (nI_add _ _) (by decide) rfl (fun ls hl => ?_)
              refine lv_goto (tgt := 60) hx hb dX4_rateFor_86 (by decide) ?_
              exact ih_60 (i + 1) H locs ls ⟨hP, hS, (lv_sub (l' := [(0, .ref m0), (1, .int (nI (b))), (2, .int (nI (t))), (4, .int (nI (goalN f b))), (5, .int (nI ((i + 1) + 1)))]) hl [1, 2, 3, 4, 0] rfl), by omega, by rw [hra, hstep, if_neg (Int32.not_le.2 c_11)]⟩ (by omega)
            · refine lv_iload hx hb dX4_rateFor_80 (lv_at hl 4 rfl) ?_
              exact z_iret (v := nI (i + 1)) hx hb hr hS (by unfold aRateFor; rw [if_pos (zr_in (j := b) (N := 1) (by omega) (by decide)), if_pos ⟨nI_le (by omega) (by omega), nI_le (by omega) (by omega)⟩, nI_clamp (show b < 2 ^ 31 by omega), nI_clamp (show t < 2 ^ 31 by omega), if_neg (by assumption), hra, hstep, if_pos (Int32.not_lt.1 c_11)]) (by omega) (by omega) dX4_rateFor_82
        · have hlg := lowG_neg c_8
          refine lv_aload_n hx hb dX4_rateFor_43 rfl (lv_at hl 1 rfl) ?_
          refine lv_iload_n hx hb dX4_rateFor_44 rfl (lv_at hl 2 rfl) ?_
          refine lv_iconst (v := nI (0)) hx hb dX4_rateFor_45 (by decide) ?_
          refine z_cVi (As := [.int (nI (b)), .int (nI (0))]) (rest := []) ⟨hx, hb, hml, hown, hts⟩ (mX4_ofStandby l D dA ad H.size m0 sa pa ha xa ta v3 v4 v6 v7 v8 v9 v10 v11 v12 f b 0 (by omega) (by omega)) (cwV 2 hts (lw_V q1420 q1422 qs30 q67 q1423) rfl rfl rfl (by decide +kernel) ⟨Nat.le_of_ble_eq_true rfl, Nat.le_of_ble_eq_true rfl⟩) hC hS (fun _ h => hA _ (Nat.le_trans hS.1 h)) (hP.sub (ws' := [(m0, .inr (4, [.ref sa, .ref pa, .ref ha, .int v3, .int v4, .ref xa, .int v6, .int v7, .int v8, .int v9, .int v10, .int v11, .int v12, .ref ta])), (sa, .inl (dA 0, 718, .inl f))]) [0, 1] rfl) (va_recv hK hP (ci := 4) (q0 := 0) rfl rfl) rfl rfl hl.1 (Nat.le_of_ble_eq_true rfl) dX4_rateFor_46 ⟨Nat.le_of_ble_eq_true rfl, Nat.le_of_ble_eq_true rfl⟩ (fun r_12 H locs hQ hF hS => ?_)
          have hP := va_P.ro hF hP
          obtain rfl : sbf f b 0 = r_12 := hQ.symm
          refine lv_tope (y := nI (rcN f b)) (hrc) ?_
          refine lv_goto (tgt := 55) hx hb dX4_rateFor_49 (by decide) ?_
          refine lv_tope (y := nI (goalN f b)) (by unfold goalN; rw [if_pos hlg]) ?_
          have hgl : goalN f b ≤ 100 := by
            have := lowGap_le f b 100 0
            unfold goalN
            split <;> omega
          refine lv_istore (lv' := [(4, .int (nI (goalN f b))), (3, .int (lowG f b)), (0, .ref m0), (1, .int (nI (b))), (2, .int (nI (t)))]) hx hb dX4_rateFor_55 hl (by decide) rfl (fun ls hl => ?_)
          refine lv_iconst (v := nI (1)) hx hb dX4_rateFor_57 (by decide) ?_
          refine lv_istore (lv' := [(5, .int (nI (1))), (4, .int (nI (goalN f b))), (3, .int (lowG f b)), (0, .ref m0), (1, .int (nI (b))), (2, .int (nI (t)))]) hx hb dX4_rateFor_58 hl (by decide) rfl (fun ls hl => ?_)
          refine z_loop (σ := Nat) (fun i => 20 - i) (fun i H locs ls => va_P D vwCl [(m0, .inr (4, [.ref sa, .ref pa, .ref ha, .int v3, .int v4, .ref xa, .int v6, .int v7, .int v8, .int v9, .int v10, .int v11, .int v12, .ref ta])), (sa, .inl (dA 0, 718, .inl f))] H ∧ va_S (fun q => s.heap.size ≤ q) s.heap H locs ∧ lv_has ls 6 [(0, .ref m0), (1, .int (nI (b))), (2, .int (nI (t))), (4, .int (nI (goalN f b))), (5, .int (nI (i + 1)))] ∧ i ≤ 20 ∧ rateN f b (goalN f b) t 20 1 = rateN f b (goalN f b) t (20 - i) (i + 1)) (0) ⟨hP, hS, (lv_sub (l' := [(0, .ref m0), (1, .int (nI (b))), (2, .int (nI (t))), (4, .int (nI (goalN f b))), (5, .int (nI (0 + 1)))]) hl [3, 4, 5, 1, 0] rfl), by omega, rfl⟩ ?_
          intro i H locs ls ⟨hP, hS, hl, hi, hra⟩ ih_60
          refine lv_iload hx hb dX4_rateFor_60 (lv_at hl 4 rfl) ?_
          refine lv_bipush (v := nI (20)) hx hb dX4_rateFor_62 (by decide) ?_
          refine lv_icmp_gt (tgt := 89) hx hb dX4_rateFor_64 (by decide) (fun c_13 => ?_) (fun c_13 => ?_)
          · have c_13 := (nI_ltI (by omega) (by omega)).1 c_13
            refine lv_ldc (v := (-1000004)) hx hb hown (hts _ q1408) dX4_rateFor_89 ?_
            exact z_iret (v := (-1000004)) hx hb hr hS (by unfold aRateFor; rw [if_pos (zr_in (j := b) (N := 1) (by omega) (by decide)), if_pos ⟨nI_le (by omega) (by omega), nI_le (by omega) (by omega)⟩, nI_clamp (show b < 2 ^ 31 by omega), nI_clamp (show t < 2 ^ 31 by omega), if_neg (by assumption), hra, show 20 - i = 0 by omega]; rfl) (by omega) (by omega) dX4_rateFor_91
          · have c_13 := mt (nI_ltI (by omega) (by omega)).2 c_13
            have hstep : rateN f b (goalN f b) t (20 - i) (i + 1) = if 0 ≤ untilN f b (goalN f b) (i + 1) (t + 1) (apN f b) 0 then nI (i + 1) else rateN f b (goalN f b) t (20 - (i + 1)) (i + 1 + 1) := by rw [show 20 - i = (20 - (i + 1)) + 1 by omega]; rfl
            refine lv_aload_n hx hb dX4_rateFor_67 rfl (lv_at hl 0 rfl) ?_
            refine lv_iload_n hx hb dX4_rateFor_68 rfl (lv_at hl 1 rfl) ?_
            refine lv_iload hx hb dX4_rateFor_69 (lv_at hl 3 rfl) ?_
            refine lv_iload hx hb dX4_rateFor_71 (lv_at hl 4 rfl) ?_
            refine lv_iload_n hx hb dX4_rateFor_73 rfl (lv_at hl 2 rfl) ?_
            refine z_cVi (As := [.int (nI (b)), .int (nI (goalN f b)), .int (nI (i + 1)), .int (nI (t))]) (rest := []) ⟨hx, hb, hml, hown, hts⟩ (mX4_until l D dA ad H.size m0 sa pa ha xa ta v3 v4 v6 v7 v8 v9 v10 v11 v12 f b (goalN f b) (i + 1) t (by omega) (hI0) (by omega) (by omega) (by omega)) (cwV 4 hts (lw_V q1540 q1542 qs46 q67 q1543) rfl rfl rfl (by decide +kernel) ⟨Nat.le_of_ble_eq_true rfl, Nat.le_of_ble_eq_true rfl⟩) hC hS (fun _ h => hA _ (Nat.le_trans hS.1 h)) (hP.sub (ws' := [(m0, .inr (4, [.ref sa, .ref pa, .ref ha, .int v3, .int v4, .ref xa, .int v6, .int v7, .int v8, .int v9, .int v10, .int v11, .int v12, .ref ta])), (sa, .inl (dA 0, 718, .inl f))]) [0, 1] rfl) (va_recv hK hP (ci := 4) (q0 := 0) rfl rfl) rfl rfl hl.1 (Nat.le_of_ble_eq_true rfl) dX4_rateFor_74 ⟨Nat.le_of_ble_eq_true rfl, Nat.le_of_ble_eq_true rfl⟩ (fun r_14 H locs hQ hF hS => ?_)
            have hP := va_P.ro hF hP
            obtain rfl : untilN f b (goalN f b) (i + 1) (t + 1) (apN f b) 0 = r_14 := hQ.symm
            refine lv_if_lt (tgt := 83) hx hb dX4_rateFor_77 (by decide) (fun c_15 => ?_) (fun c_15 => ?_)
            · refine lv_iinc (v := nI (i + 1 + 1)) (lv' := [(5, .int (nI (i + 1 + 1))), (0, .ref m0), (1, .int (nI (b))), (2, .int (nI (t))), (4, .int (nI (goalN f b)))]) hx hb dX4_rateFor_83 hl (k := 4) rfl (nI_add _ _) (by decide) rfl (fun ls hl => ?_)
              refine lv_goto (tgt := 60) hx hb dX4_rateFor_86 (by decide) ?_
              exact ih_60 (i + 1) H locs ls ⟨hP, hS, (lv_sub (l' := [(0, .ref m0), (1, .int (nI (b))), (2, .int (nI (t))), (4, .int (nI (goalN f b))), (5, .int (nI ((i + 1) + 1)))]) hl [1, 2, 3, 4, 0] rfl), by omega, by rw [hra, hstep, if_neg (Int32.not_le.2 c_15)]⟩ (by omega)
            · refine lv_iload hx hb dX4_rateFor_80 (lv_at hl 4 rfl) ?_
              exact z_iret (v := nI (i + 1)) hx hb hr hS (by unfold aRateFor; rw [if_pos (zr_in (j := b) (N := 1) (by omega) (by decide)), if_pos ⟨nI_le (by omega) (by omega), nI_le (by omega) (by omega)⟩, nI_clamp (show b < 2 ^ 31 by omega), nI_clamp (show t < 2 ^ 31 by omega), if_neg (by assumption), hra, hstep, if_pos (Int32.not_lt.1 c_15)]) (by omega) (by omega) dX4_rateFor_82
      · refine lv_ldc (v := (-1000002)) hx hb hown (hts _ q1383) dX4_rateFor_30 ?_
        exact z_iret (v := (-1000002)) hx hb hr hS (by unfold aRateFor; simp only [nI_clamp (show b < 2 ^ 31 by omega), nI_clamp (show t < 2 ^ 31 by omega)]; (repeat' split) <;> first | rfl | contradiction | (exfalso; simp_all; done)) (by omega) (by omega) dX4_rateFor_32
    · have c_4 := bI_0.1 c_4
      refine lv_ldc (v := (-1000001)) hx hb hown (hts _ q1382) dX4_rateFor_17 ?_
      exact z_iret (v := (-1000001)) hx hb hr hS (by unfold aRateFor; simp only [nI_clamp (show b < 2 ^ 31 by omega)]; (repeat' split) <;> first | rfl | contradiction | (exfalso; simp_all; done)) (by omega) (by omega) dX4_rateFor_19
