set_option maxHeartbeats 4000000 in
set_option maxRecDepth 100000 in
theorem mX4_primary (l : Launch) (D : va_G) (dA : Nat → ClassId) (ad : Nat → Nat) (sz : Nat) (m0 : Nat) (sa : Nat) (pa : Nat) (ha : Nat) (xa : Nat) (ta : Nat) (v3 : Int32) (v4 : Int32) (v6 : Int32) (v7 : Int32) (v8 : Int32) (v9 : Int32) (v10 : Int32) (v11 : Int32) (v12 : Int32) (f : Nat → Int32) (sl : Int32) (key : Int32) (hI : InvA f) : Met l yX4_primary (ws_ yX4_primary cX4_primary 4 (some .int)) ({ frames := 4, cells := 0, slots := 0, locals := 120 }) (va_Pc [.ref m0, .int sl, .int key] (zP D dA ad (fun q => sz ≤ q) sz (fun H => va_P D vwCl [(m0, .inr (4, [.ref sa, .ref pa, .ref ha, .int v3, .int v4, .ref xa, .int v6, .int v7, .int v8, .int v9, .int v10, .int v11, .int v12, .ref ta])), (sa, .inl (dA 0, 718, .inl f))] H))) (zQi (fun rz H => rz = aPrimary f sl key) (fun q => sz ≤ q)) (0) (0) (fun q => sz ≤ q) := by
  refine Met.ofW (cc := cX4_primary) (maxL := 4) (ret := (some .int)) (by decide) rfl ?_
  intro p e s m args below meth c s₁ B hml hv
  obtain ⟨rfl, hsz, hC, hP⟩ := hv
  have hx := B.exec
  have hb := B.bytes
  have hr := B.returns
  have hts := atoms_spec (ws := ws_ yX4_primary cX4_primary 4 (some .int)) B.pre
  have hts : ∀ w ∈ lw_all, w.before _ s = true := fun w h => hts w (List.mem_cons_of_mem _ h)
  have hown : s.vm.findClass RX4 = some m.cls := findClass_of_methodNamed B.named
  have hlocks := B.notSynchronized
  subst hsz
  have hK := hC.K
  have hA : ∀ q : Nat, s.heap.size ≤ q → s.heap.size ≤ q := fun _ h => h
  have hS : va_S (fun q => s.heap.size ≤ q) s.heap s.heap [] := va_S.rf
  have hP : va_P D vwCl [(m0, .inr (4, [.ref sa, .ref pa, .ref ha, .int v3, .int v4, .ref xa, .int v6, .int v7, .int v8, .int v9, .int v10, .int v11, .int v12, .ref ta])), (sa, .inl (dA 0, 718, .inl f))] s.heap := hP
  obtain ⟨hf0, hn, hsb, hrt, hrt2⟩ := hI
  have hlp := fun t => lastPut_le f t key (rN f)
  have hl := lv_entry ([.ref m0, .int sl, .int key]) (n := 4) (Nat.le_of_ble_eq_true rfl)
  rw [lg_entry_eq]
  generalize (lg_sl ([.ref m0, .int sl, .int key]) ++ List.replicate (4 - (lg_sl ([.ref m0, .int sl, .int key])).length) Slot.unset).toArray = ls at hl ⊢
  have hl : lv_has ls 4 [(0, .ref m0), (1, .int sl), (2, .int key)] := hl
  refine lv_iload_n hx hb dX4_primary_0 rfl (lv_at hl 1 rfl) ?_
  refine lv_iconst (v := (-1)) hx hb dX4_primary_1 (by decide) ?_
  refine lv_iconst (v := nI (2)) hx hb dX4_primary_2 (by decide) ?_
  refine z_cSi (As := [.int sl, .int (-1), .int (nI (2))]) (rest := []) ⟨hx, hb, hml, hown, hts⟩ (mX4_in l D dA ad s.heap.size sl (-1) (nI (2))) (va_cwS 3 hts (lw_S q1379 q1380 q67 q1381) rfl rfl rfl (by decide +kernel) ⟨Nat.le_of_ble_eq_true rfl, Nat.le_of_ble_eq_true rfl⟩) hC hS (fun _ h => hA _ (Nat.le_trans hS.1 h)) trivial rfl rfl hl.1 (Nat.le_of_ble_eq_true rfl) dX4_primary_3 ⟨Nat.le_of_ble_eq_true rfl, Nat.le_of_ble_eq_true rfl⟩ (fun r_1 H locs hQ hF hS => ?_)
  have hP := va_P.ro hF hP
  obtain rfl : bI ((-1) ≤ sl ∧ sl ≤ (nI (2))) = r_1 := hQ.symm
  refine lv_if_eq (tgt := 16) hx hb dX4_primary_6 (by decide) (fun c_2 => ?_) (fun c_2 => ?_)
  · have c_2 := bI_0.1 c_2
    refine lv_ldc (v := (-1000001)) hx hb hown (hts _ q1382) dX4_primary_16 ?_
    exact z_iret (v := (-1000001)) hx hb hr hS (by unfold aPrimary; simp only [aOwn]; (repeat' split) <;> first | rfl | contradiction | omega | (exfalso; simp_all; done) | (exfalso; exact absurd ‹_ < 0› (nI_pos (by omega)))) (by omega) (by omega) dX4_primary_18
  · have c_2 := bI_1.1 c_2
    refine lv_iload_n hx hb dX4_primary_9 rfl (lv_at hl 2 rfl) ?_
    refine z_cSi (As := [.int key]) (rest := []) ⟨hx, hb, hml, hown, hts⟩ (mX4_isKey l D dA ad H.size key) (va_cwS 1 hts (lw_S q1392 q1393 q67 q1394) rfl rfl rfl (by decide +kernel) ⟨Nat.le_of_ble_eq_true rfl, Nat.le_of_ble_eq_true rfl⟩) hC hS (fun _ h => hA _ (Nat.le_trans hS.1 h)) trivial rfl rfl hl.1 (Nat.le_of_ble_eq_true rfl) dX4_primary_10 ⟨Nat.le_of_ble_eq_true rfl, Nat.le_of_ble_eq_true rfl⟩ (fun r_3 H locs hQ hF hS => ?_)
    have hP := va_P.ro hF hP
    obtain rfl : bI (nI (0) ≤ key ∧ key ≤ nI (23)) = r_3 := hQ.symm
    refine lv_if_ne (tgt := 19) hx hb dX4_primary_13 (by decide) (fun c_4 => ?_) (fun c_4 => ?_)
    · have c_4 := bI_1.1 c_4
      refine lv_iload_n hx hb dX4_primary_19 rfl (lv_at hl 1 rfl) ?_
      refine lv_if_lt (tgt := 38) hx hb dX4_primary_20 (by decide) (fun c_5 => ?_) (fun c_5 => ?_)
      · refine lv_iload_n hx hb dX4_primary_38 rfl (lv_at hl 1 rfl) ?_
        refine lv_if_ge (tgt := 46) hx hb dX4_primary_39 (by decide) (fun c_6 => ?_) (fun c_6 => ?_)
        · exact absurd c_6 (Int32.not_le.2 c_5)
        · refine lv_iconst (v := nI (0)) hx hb dX4_primary_42 (by decide) ?_
          refine lv_goto (tgt := 60) hx hb dX4_primary_43 (by decide) ?_
          refine lv_istore_n (lv' := [(3, .int (nI (0))), (0, .ref m0), (1, .int sl), (2, .int key)]) hx hb dX4_primary_60 rfl hl (by decide) rfl (fun ls hl => ?_)
          refine lv_iload_n hx hb dX4_primary_61 rfl (lv_at hl 0 rfl) ?_
          
          refine lv_if_le (tgt := 74) hx hb dX4_primary_62 (by decide) (fun c_7 => ?_) (fun c_7 => ?_)
          · refine lv_aload_n hx hb dX4_primary_74 rfl (lv_at hl 1 rfl) ?_
            refine lv_aload_n hx hb dX4_primary_75 rfl (lv_at hl 1 rfl) ?_
            refine va_get (D := D) (ci := 4) (v := .ref sa) (C := RX4) (T := TX4) (N := 14) hx hb hts in_X4 hown hK hP 0 rfl rfl 0 (by decide) (hts _ q1329) (fun _ h9 => h9) rfl dX4_primary_76 ?_
            refine lv_iconst (v := nI (0)) hx hb dX4_primary_79 (by decide) ?_
            refine va_iald hx hb hK hP 1 0 rfl rfl (vp_in_nI (by omega) (by omega)) dX4_primary_80 ?_
            refine lv_tope (y := f 0) (by rw [nI_clamp (by omega)]) ?_
            refine lv_tope (y := nI (rN f)) (hf0) ?_
            refine lv_iload_n hx hb dX4_primary_81 rfl (lv_at hl 3 rfl) ?_
            refine z_cVi (As := [.int (nI (rN f)), .int key]) (rest := []) ⟨hx, hb, hml, hown, hts⟩ (mX4_valueAt l D dA ad H.size m0 sa pa ha xa ta v3 v4 v6 v7 v8 v9 v10 v11 v12 f (rN f) key (rN f) (hf0) (hn) (by omega)) (cwV 2 hts (lw_V q1492 q1494 qs41 q67 q1495) rfl rfl rfl (by decide +kernel) ⟨Nat.le_of_ble_eq_true rfl, Nat.le_of_ble_eq_true rfl⟩) hC hS (fun _ h => hA _ (Nat.le_trans hS.1 h)) (hP.sub (ws' := [(m0, .inr (4, [.ref sa, .ref pa, .ref ha, .int v3, .int v4, .ref xa, .int v6, .int v7, .int v8, .int v9, .int v10, .int v11, .int v12, .ref ta])), (sa, .inl (dA 0, 718, .inl f))]) [0, 1] rfl) (va_recv hK hP (ci := 4) (q0 := 0) rfl rfl) rfl rfl hl.1 (Nat.le_of_ble_eq_true rfl) dX4_primary_82 ⟨Nat.le_of_ble_eq_true rfl, Nat.le_of_ble_eq_true rfl⟩ (fun r_8 H locs hQ hF hS => ?_)
            have hP := va_P.ro hF hP
            obtain rfl : valueAt f (rN f) key (rN f) = r_8 := hQ.symm
            exact z_iret (v := valueAt f (rN f) key (rN f)) hx hb hr hS (by unfold aPrimary; simp only [aOwn]; (repeat' split) <;> first | rfl | contradiction | omega | (exfalso; simp_all; done) | (exfalso; exact absurd ‹_ < 0› (nI_pos (by omega)))) (by omega) (by omega) dX4_primary_85
          · exact absurd c_7 (by decide)
      · obtain ⟨j, hj, rfl⟩ := zr_of (N := 2) ⟨Int32.not_lt.1 c_5, c_2.2⟩ (by decide)
        refine lv_aload_n hx hb dX4_primary_23 rfl (lv_at hl 0 rfl) ?_
        refine va_get (D := D) (ci := 4) (v := .ref sa) (C := RX4) (T := TX4) (N := 14) hx hb hts in_X4 hown hK hP 0 rfl rfl 0 (by decide) (hts _ q1329) (fun _ h9 => h9) rfl dX4_primary_24 ?_
        refine lv_bipush (v := nI (9)) hx hb dX4_primary_27 (by decide) ?_
        refine lv_iload_n hx hb dX4_primary_29 rfl (lv_at hl 1 rfl) ?_
        refine lv_iadd hx hb dX4_primary_30 ?_
        refine lv_tope (y := nI (9 + j)) (nI_add _ _) ?_
        refine va_iald hx hb hK hP 1 0 rfl rfl (vp_in_nI (by omega) (by omega)) dX4_primary_31 ?_
        refine lv_tope (y := f (9 + j)) (by rw [nI_clamp (by omega)]) ?_
        refine lv_if_ne (tgt := 38) hx hb dX4_primary_32 (by decide) (fun c_9 => ?_) (fun c_9 => ?_)
        · refine lv_iload_n hx hb dX4_primary_38 rfl (lv_at hl 1 rfl) ?_
          refine lv_if_ge (tgt := 46) hx hb dX4_primary_39 (by decide) (fun c_10 => ?_) (fun c_10 => ?_)
          · refine lv_aload_n hx hb dX4_primary_46 rfl (lv_at hl 0 rfl) ?_
            refine lv_aload_n hx hb dX4_primary_47 rfl (lv_at hl 0 rfl) ?_
            refine va_get (D := D) (ci := 4) (v := .ref sa) (C := RX4) (T := TX4) (N := 14) hx hb hts in_X4 hown hK hP 0 rfl rfl 0 (by decide) (hts _ q1329) (fun _ h9 => h9) rfl dX4_primary_48 ?_
            refine lv_bipush (v := nI (9)) hx hb dX4_primary_51 (by decide) ?_
            refine lv_iload_n hx hb dX4_primary_53 rfl (lv_at hl 1 rfl) ?_
            refine lv_iadd hx hb dX4_primary_54 ?_
            refine lv_tope (y := nI (9 + j)) (nI_add _ _) ?_
            refine va_iald hx hb hK hP 1 0 rfl rfl (vp_in_nI (by omega) (by omega)) dX4_primary_55 ?_
            refine lv_tope (y := f (9 + j)) (by rw [nI_clamp (by omega)]) ?_
            refine lv_iload_n hx hb dX4_primary_56 rfl (lv_at hl 2 rfl) ?_
            refine z_cVi (As := [.int (f (9 + j)), .int key]) (rest := []) ⟨hx, hb, hml, hown, hts⟩ (mX4_lastPut l D dA ad H.size m0 sa pa ha xa ta v3 v4 v6 v7 v8 v9 v10 v11 v12 f (f (9 + j)) key (rN f) (hf0) (hn)) (cwV 2 hts (lw_V q1500 q1502 qs43 q67 q1503) rfl rfl rfl (by decide +kernel) ⟨Nat.le_of_ble_eq_true rfl, Nat.le_of_ble_eq_true rfl⟩) hC hS (fun _ h => hA _ (Nat.le_trans hS.1 h)) (hP.sub (ws' := [(m0, .inr (4, [.ref sa, .ref pa, .ref ha, .int v3, .int v4, .ref xa, .int v6, .int v7, .int v8, .int v9, .int v10, .int v11, .int v12, .ref ta])), (sa, .inl (dA 0, 718, .inl f))]) [0, 1] rfl) (va_recv hK hP (ci := 4) (q0 := 0) rfl rfl) rfl rfl hl.1 (Nat.le_of_ble_eq_true rfl) dX4_primary_57 ⟨Nat.le_of_ble_eq_true rfl, Nat.le_of_ble_eq_true rfl⟩ (fun r_11 H locs hQ hF hS => ?_)
            have hP := va_P.ro hF hP
            obtain rfl : nI (lastPut f (f (9 + j)) key (rN f)) = r_11 := hQ.symm
            have hlp9 := hlp (f (9 + j))
            refine lv_istore_n (lv' := [(3, .int (nI (lastPut f (f (9 + j)) key (rN f)))), (0, .ref m0), (1, .int (nI (j))), (2, .int key)]) hx hb dX4_primary_60 rfl hl (by decide) rfl (fun ls hl => ?_)
            refine lv_iload_n hx hb dX4_primary_61 rfl (lv_at hl 0 rfl) ?_
            
            refine lv_if_le (tgt := 74) hx hb dX4_primary_62 (by decide) (fun c_12 => ?_) (fun c_12 => ?_)
            · have c_12 := (nI_leI (by omega) (by omega)).1 (show nI _ ≤ nI 0 from c_12)
              refine lv_aload_n hx hb dX4_primary_74 rfl (lv_at hl 1 rfl) ?_
              refine lv_aload_n hx hb dX4_primary_75 rfl (lv_at hl 1 rfl) ?_
              refine va_get (D := D) (ci := 4) (v := .ref sa) (C := RX4) (T := TX4) (N := 14) hx hb hts in_X4 hown hK hP 0 rfl rfl 0 (by decide) (hts _ q1329) (fun _ h9 => h9) rfl dX4_primary_76 ?_
              refine lv_iconst (v := nI (0)) hx hb dX4_primary_79 (by decide) ?_
              refine va_iald hx hb hK hP 1 0 rfl rfl (vp_in_nI (by omega) (by omega)) dX4_primary_80 ?_
              refine lv_tope (y := f 0) (by rw [nI_clamp (by omega)]) ?_
              refine lv_tope (y := nI (rN f)) (hf0) ?_
              refine lv_iload_n hx hb dX4_primary_81 rfl (lv_at hl 3 rfl) ?_
              refine z_cVi (As := [.int (nI (rN f)), .int key]) (rest := []) ⟨hx, hb, hml, hown, hts⟩ (mX4_valueAt l D dA ad H.size m0 sa pa ha xa ta v3 v4 v6 v7 v8 v9 v10 v11 v12 f (rN f) key (rN f) (hf0) (hn) (by omega)) (cwV 2 hts (lw_V q1492 q1494 qs41 q67 q1495) rfl rfl rfl (by decide +kernel) ⟨Nat.le_of_ble_eq_true rfl, Nat.le_of_ble_eq_true rfl⟩) hC hS (fun _ h => hA _ (Nat.le_trans hS.1 h)) (hP.sub (ws' := [(m0, .inr (4, [.ref sa, .ref pa, .ref ha, .int v3, .int v4, .ref xa, .int v6, .int v7, .int v8, .int v9, .int v10, .int v11, .int v12, .ref ta])), (sa, .inl (dA 0, 718, .inl f))]) [0, 1] rfl) (va_recv hK hP (ci := 4) (q0 := 0) rfl rfl) rfl rfl hl.1 (Nat.le_of_ble_eq_true rfl) dX4_primary_82 ⟨Nat.le_of_ble_eq_true rfl, Nat.le_of_ble_eq_true rfl⟩ (fun r_13 H locs hQ hF hS => ?_)
              have hP := va_P.ro hF hP
              obtain rfl : valueAt f (rN f) key (rN f) = r_13 := hQ.symm
              exact z_iret (v := valueAt f (rN f) key (rN f)) hx hb hr hS (by unfold aPrimary; simp only [aOwn]; simp only [nI_clamp (show j < 2 ^ 31 by omega)]; (repeat' split) <;> first | rfl | contradiction | omega | (exfalso; simp_all; done) | (exfalso; exact absurd ‹_ < 0› (nI_pos (by omega)))) (by omega) (by omega) dX4_primary_85
            · have c_12 := mt (nI_leI (by omega) (by omega)).2 (show ¬ nI _ ≤ nI 0 from c_12)
              refine lv_aload_n hx hb dX4_primary_65 rfl (lv_at hl 1 rfl) ?_
              refine lv_iload_n hx hb dX4_primary_66 rfl (lv_at hl 0 rfl) ?_
              refine lv_iconst (v := nI (3)) hx hb dX4_primary_67 (by decide) ?_
              refine z_cVi (As := [.int (nI (lastPut f (f (9 + j)) key (rN f))), .int (nI (3))]) (rest := []) ⟨hx, hb, hml, hown, hts⟩ (mX4_ofRecord l D dA ad H.size m0 sa pa ha xa ta v3 v4 v6 v7 v8 v9 v10 v11 v12 f (lastPut f (f (9 + j)) key (rN f)) 3 (by omega) (Nat.le_trans hlp9 hn) (by omega)) (cwV 2 hts (lw_V q1452 q1454 qs35 q67 q1455) rfl rfl rfl (by decide +kernel) ⟨Nat.le_of_ble_eq_true rfl, Nat.le_of_ble_eq_true rfl⟩) hC hS (fun _ h => hA _ (Nat.le_trans hS.1 h)) (hP.sub (ws' := [(m0, .inr (4, [.ref sa, .ref pa, .ref ha, .int v3, .int v4, .ref xa, .int v6, .int v7, .int v8, .int v9, .int v10, .int v11, .int v12, .ref ta])), (sa, .inl (dA 0, 718, .inl f))]) [0, 1] rfl) (va_recv hK hP (ci := 4) (q0 := 0) rfl rfl) rfl rfl hl.1 (Nat.le_of_ble_eq_true rfl) dX4_primary_68 ⟨Nat.le_of_ble_eq_true rfl, Nat.le_of_ble_eq_true rfl⟩ (fun r_14 H locs hQ hF hS => ?_)
              have hP := va_P.ro hF hP
              obtain rfl : rcf f (lastPut f (f (9 + j)) key (rN f)) 3 = r_14 := hQ.symm
              refine lv_goto (tgt := 85) hx hb dX4_primary_71 (by decide) ?_
              exact z_iret (v := rcf f (lastPut f (f (9 + j)) key (rN f)) 3) hx hb hr hS (by unfold aPrimary; simp only [aOwn]; simp only [nI_clamp (show j < 2 ^ 31 by omega)]; (repeat' split) <;> first | rfl | contradiction | omega | (exfalso; simp_all; done) | (exfalso; exact absurd ‹_ < 0› (nI_pos (by omega)))) (by omega) (by omega) dX4_primary_85
          · exact absurd (nI_pos' (by omega)) c_10
        · refine lv_ldc (v := (-1000002)) hx hb hown (hts _ q1383) dX4_primary_35 ?_
          exact z_iret (v := (-1000002)) hx hb hr hS (by unfold aPrimary; simp only [aOwn]; simp only [nI_clamp (show j < 2 ^ 31 by omega)]; (repeat' split) <;> first | rfl | contradiction | omega | (exfalso; simp_all; done) | (exfalso; exact absurd ‹_ < 0› (nI_pos (by omega)))) (by omega) (by omega) dX4_primary_37
    · have c_4 := bI_0.1 c_4
      refine lv_ldc (v := (-1000001)) hx hb hown (hts _ q1382) dX4_primary_16 ?_
      exact z_iret (v := (-1000001)) hx hb hr hS (by unfold aPrimary; simp only [aOwn]; (repeat' split) <;> first | rfl | contradiction | omega | (exfalso; simp_all; done) | (exfalso; exact absurd ‹_ < 0› (nI_pos (by omega)))) (by omega) (by omega) dX4_primary_18

set_option maxHeartbeats 4000000 in
set_option maxRecDepth 100000 in
theorem mX4_serves (l : Launch) (D : va_G) (dA : Nat → ClassId) (ad : Nat → Nat) (sz : Nat) (m0 : Nat) (sa : Nat) (pa : Nat) (ha : Nat) (xa : Nat) (ta : Nat) (v3 : Int32) (v4 : Int32) (v6 : Int32) (v7 : Int32) (v8 : Int32) (v9 : Int32) (v10 : Int32) (v11 : Int32) (v12 : Int32) (f : Nat → Int32) (fe : Int32) (hI : InvA f) : Met l yX4_serves (ws_ yX4_serves cX4_serves 4 (some .int)) ({ frames := 3, cells := 0, slots := 0, locals := 90 }) (va_Pc [.ref m0, .int fe] (zP D dA ad (fun q => sz ≤ q) sz (fun H => va_P D vwCl [(m0, .inr (4, [.ref sa, .ref pa, .ref ha, .int v3, .int v4, .ref xa, .int v6, .int v7, .int v8, .int v9, .int v10, .int v11, .int v12, .ref ta])), (sa, .inl (dA 0, 718, .inl f))] H))) (zQi (fun rz H => rz = aServes f fe) (fun q => sz ≤ q)) (0) (0) (fun q => sz ≤ q) := by
  refine Met.ofW (cc := cX4_serves) (maxL := 4) (ret := (some .int)) (by decide) rfl ?_
  intro p e s m args below meth c s₁ B hml hv
  obtain ⟨rfl, hsz, hC, hP⟩ := hv
  have hx := B.exec
  have hb := B.bytes
  have hr := B.returns
  have hts := atoms_spec (ws := ws_ yX4_serves cX4_serves 4 (some .int)) B.pre
  have hts : ∀ w ∈ lw_all, w.before _ s = true := fun w h => hts w (List.mem_cons_of_mem _ h)
  have hown : s.vm.findClass RX4 = some m.cls := findClass_of_methodNamed B.named
  have hlocks := B.notSynchronized
  subst hsz
  have hK := hC.K
  have hA : ∀ q : Nat, s.heap.size ≤ q → s.heap.size ≤ q := fun _ h => h
  have hS : va_S (fun q => s.heap.size ≤ q) s.heap s.heap [] := va_S.rf
  have hP : va_P D vwCl [(m0, .inr (4, [.ref sa, .ref pa, .ref ha, .int v3, .int v4, .ref xa, .int v6, .int v7, .int v8, .int v9, .int v10, .int v11, .int v12, .ref ta])), (sa, .inl (dA 0, 718, .inl f))] s.heap := hP
  obtain ⟨hf0, hn, hsb, hrt, hrt2⟩ := hI
  have hl := lv_entry ([.ref m0, .int fe]) (n := 4) (Nat.le_of_ble_eq_true rfl)
  rw [lg_entry_eq]
  generalize (lg_sl ([.ref m0, .int fe]) ++ List.replicate (4 - (lg_sl ([.ref m0, .int fe])).length) Slot.unset).toArray = ls at hl ⊢
  have hl : lv_has ls 4 [(0, .ref m0), (1, .int fe)] := hl
  refine lv_aload_n hx hb dX4_serves_0 rfl (lv_at hl 0 rfl) ?_
  refine lv_iload_n hx hb dX4_serves_1 rfl (lv_at hl 1 rfl) ?_
  refine z_cVi (As := [.int fe]) (rest := []) ⟨hx, hb, hml, hown, hts⟩ (mX4_isFence l D dA ad s.heap.size m0 sa pa ha xa ta v3 v4 v6 v7 v8 v9 v10 v11 v12 f fe) (cwV 1 hts (lw_V q1484 q1486 qs39 q67 q1487) rfl rfl rfl (by decide +kernel) ⟨Nat.le_of_ble_eq_true rfl, Nat.le_of_ble_eq_true rfl⟩) hC hS (fun _ h => hA _ (Nat.le_trans hS.1 h)) (hP.sub (ws' := [(m0, .inr (4, [.ref sa, .ref pa, .ref ha, .int v3, .int v4, .ref xa, .int v6, .int v7, .int v8, .int v9, .int v10, .int v11, .int v12, .ref ta])), (sa, .inl (dA 0, 718, .inl f))]) [0, 1] rfl) (va_recv hK hP (ci := 4) (q0 := 0) rfl rfl) rfl rfl hl.1 (Nat.le_of_ble_eq_true rfl) dX4_serves_2 ⟨Nat.le_of_ble_eq_true rfl, Nat.le_of_ble_eq_true rfl⟩ (fun r_1 H locs hQ hF hS => ?_)
  have hP := va_P.ro hF hP
  obtain rfl : bI (isFe f fe) = r_1 := hQ.symm
  refine lv_if_ne (tgt := 11) hx hb dX4_serves_5 (by decide) (fun c_2 => ?_) (fun c_2 => ?_)
  · have c_2 := bI_1.1 c_2
    refine lv_aload_n hx hb dX4_serves_11 rfl (lv_at hl 0 rfl) ?_
    refine lv_iconst (v := nI (0)) hx hb dX4_serves_12 (by decide) ?_
    refine lv_iload_n hx hb dX4_serves_13 rfl (lv_at hl 1 rfl) ?_
    refine z_cVi (As := [.int (nI (0)), .int fe]) (rest := []) ⟨hx, hb, hml, hown, hts⟩ (mX4_canServe l D dA ad H.size m0 sa pa ha xa ta v3 v4 v6 v7 v8 v9 v10 v11 v12 f 0 fe (by omega)) (cwV 2 hts (lw_V q1488 q1490 qs40 q67 q1491) rfl rfl rfl (by decide +kernel) ⟨Nat.le_of_ble_eq_true rfl, Nat.le_of_ble_eq_true rfl⟩) hC hS (fun _ h => hA _ (Nat.le_trans hS.1 h)) (hP.sub (ws' := [(m0, .inr (4, [.ref sa, .ref pa, .ref ha, .int v3, .int v4, .ref xa, .int v6, .int v7, .int v8, .int v9, .int v10, .int v11, .int v12, .ref ta])), (sa, .inl (dA 0, 718, .inl f))]) [0, 1] rfl) (va_recv hK hP (ci := 4) (q0 := 0) rfl rfl) rfl rfl hl.1 (Nat.le_of_ble_eq_true rfl) dX4_serves_14 ⟨Nat.le_of_ble_eq_true rfl, Nat.le_of_ble_eq_true rfl⟩ (fun r_3 H locs hQ hF hS => ?_)
    have hP := va_P.ro hF hP
    obtain rfl : bI (aCan f 0 fe) = r_3 := hQ.symm
    refine lv_istore_n (lv' := [(2, .int (bI (aCan f 0 fe))), (0, .ref m0), (1, .int fe)]) hx hb dX4_serves_17 rfl hl (by decide) rfl (fun ls hl => ?_)
    refine lv_aload_n hx hb dX4_serves_18 rfl (lv_at hl 1 rfl) ?_
    refine lv_iconst (v := nI (1)) hx hb dX4_serves_19 (by decide) ?_
    refine lv_iload_n hx hb dX4_serves_20 rfl (lv_at hl 2 rfl) ?_
    refine z_cVi (As := [.int (nI (1)), .int fe]) (rest := []) ⟨hx, hb, hml, hown, hts⟩ (mX4_canServe l D dA ad H.size m0 sa pa ha xa ta v3 v4 v6 v7 v8 v9 v10 v11 v12 f 1 fe (by omega)) (cwV 2 hts (lw_V q1488 q1490 qs40 q67 q1491) rfl rfl rfl (by decide +kernel) ⟨Nat.le_of_ble_eq_true rfl, Nat.le_of_ble_eq_true rfl⟩) hC hS (fun _ h => hA _ (Nat.le_trans hS.1 h)) (hP.sub (ws' := [(m0, .inr (4, [.ref sa, .ref pa, .ref ha, .int v3, .int v4, .ref xa, .int v6, .int v7, .int v8, .int v9, .int v10, .int v11, .int v12, .ref ta])), (sa, .inl (dA 0, 718, .inl f))]) [0, 1] rfl) (va_recv hK hP (ci := 4) (q0 := 0) rfl rfl) rfl rfl hl.1 (Nat.le_of_ble_eq_true rfl) dX4_serves_21 ⟨Nat.le_of_ble_eq_true rfl, Nat.le_of_ble_eq_true rfl⟩ (fun r_4 H locs hQ hF hS => ?_)
    have hP := va_P.ro hF hP
    obtain rfl : bI (aCan f 1 fe) = r_4 := hQ.symm
    refine lv_istore_n (lv' := [(3, .int (bI (aCan f 1 fe))), (2, .int (bI (aCan f 0 fe))), (0, .ref m0), (1, .int fe)]) hx hb dX4_serves_24 rfl hl (by decide) rfl (fun ls hl => ?_)
    refine lv_iload_n hx hb dX4_serves_25 rfl (lv_at hl 1 rfl) ?_
    refine lv_if_eq (tgt := 56) hx hb dX4_serves_26 (by decide) (fun c_5 => ?_) (fun c_5 => ?_)
    · have c_5 := bI_0.1 c_5
      refine lv_iload_n hx hb dX4_serves_56 rfl (lv_at hl 1 rfl) ?_
      refine lv_if_eq (tgt := 64) hx hb dX4_serves_57 (by decide) (fun c_6 => ?_) (fun c_6 => ?_)
      · have c_6 := bI_0.1 c_6
        refine lv_iload_n hx hb dX4_serves_64 rfl (lv_at hl 0 rfl) ?_
        refine lv_if_eq (tgt := 72) hx hb dX4_serves_65 (by decide) (fun c_7 => ?_) (fun c_7 => ?_)
        · have c_7 := bI_0.1 c_7
          refine lv_ldc (v := (-1000004)) hx hb hown (hts _ q1408) dX4_serves_72 ?_
          exact z_iret (v := (-1000004)) hx hb hr hS (by unfold aServes; (repeat' split) <;> first | rfl | contradiction | (exfalso; simp_all; done)) (by omega) (by omega) dX4_serves_74
        · have c_7 := bI_1.1 c_7
          refine lv_iconst (v := nI (1)) hx hb dX4_serves_68 (by decide) ?_
          refine lv_goto (tgt := 74) hx hb dX4_serves_69 (by decide) ?_
          exact z_iret (v := nI (1)) hx hb hr hS (by unfold aServes; (repeat' split) <;> first | rfl | contradiction | (exfalso; simp_all; done)) (by omega) (by omega) dX4_serves_74
      · have c_6 := bI_1.1 c_6
        refine lv_iconst (v := nI (0)) hx hb dX4_serves_60 (by decide) ?_
        refine lv_goto (tgt := 74) hx hb dX4_serves_61 (by decide) ?_
        exact z_iret (v := nI (0)) hx hb hr hS (by unfold aServes; (repeat' split) <;> first | rfl | contradiction | (exfalso; simp_all; done)) (by omega) (by omega) dX4_serves_74
    · have c_5 := bI_1.1 c_5
      refine lv_iload_n hx hb dX4_serves_29 rfl (lv_at hl 0 rfl) ?_
      refine lv_if_eq (tgt := 56) hx hb dX4_serves_30 (by decide) (fun c_8 => ?_) (fun c_8 => ?_)
      · have c_8 := bI_0.1 c_8
        refine lv_iload_n hx hb dX4_serves_56 rfl (lv_at hl 1 rfl) ?_
        refine lv_if_eq (tgt := 64) hx hb dX4_serves_57 (by decide) (fun c_9 => ?_) (fun c_9 => ?_)
        · have c_9 := bI_0.1 c_9
          refine lv_iload_n hx hb dX4_serves_64 rfl (lv_at hl 0 rfl) ?_
          refine lv_if_eq (tgt := 72) hx hb dX4_serves_65 (by decide) (fun c_10 => ?_) (fun c_10 => ?_)
          · have c_10 := bI_0.1 c_10
            refine lv_ldc (v := (-1000004)) hx hb hown (hts _ q1408) dX4_serves_72 ?_
            exact z_iret (v := (-1000004)) hx hb hr hS (by unfold aServes; (repeat' split) <;> first | rfl | contradiction | (exfalso; simp_all; done)) (by omega) (by omega) dX4_serves_74
          · have c_10 := bI_1.1 c_10
            refine lv_iconst (v := nI (1)) hx hb dX4_serves_68 (by decide) ?_
            refine lv_goto (tgt := 74) hx hb dX4_serves_69 (by decide) ?_
            exact z_iret (v := nI (1)) hx hb hr hS (by unfold aServes; (repeat' split) <;> first | rfl | contradiction | (exfalso; simp_all; done)) (by omega) (by omega) dX4_serves_74
        · have c_9 := bI_1.1 c_9
          refine lv_iconst (v := nI (0)) hx hb dX4_serves_60 (by decide) ?_
          refine lv_goto (tgt := 74) hx hb dX4_serves_61 (by decide) ?_
          exact z_iret (v := nI (0)) hx hb hr hS (by unfold aServes; (repeat' split) <;> first | rfl | contradiction | (exfalso; simp_all; done)) (by omega) (by omega) dX4_serves_74
      · have c_8 := bI_1.1 c_8
        refine lv_aload_n hx hb dX4_serves_33 rfl (lv_at hl 2 rfl) ?_
        refine lv_iconst (v := nI (1)) hx hb dX4_serves_34 (by decide) ?_
        refine lv_iconst (v := nI (1)) hx hb dX4_serves_35 (by decide) ?_
        refine z_cVi (As := [.int (nI (1)), .int (nI (1))]) (rest := []) ⟨hx, hb, hml, hown, hts⟩ (mX4_ofStandby l D dA ad H.size m0 sa pa ha xa ta v3 v4 v6 v7 v8 v9 v10 v11 v12 f 1 1 (by omega) (by omega)) (cwV 2 hts (lw_V q1420 q1422 qs30 q67 q1423) rfl rfl rfl (by decide +kernel) ⟨Nat.le_of_ble_eq_true rfl, Nat.le_of_ble_eq_true rfl⟩) hC hS (fun _ h => hA _ (Nat.le_trans hS.1 h)) (hP.sub (ws' := [(m0, .inr (4, [.ref sa, .ref pa, .ref ha, .int v3, .int v4, .ref xa, .int v6, .int v7, .int v8, .int v9, .int v10, .int v11, .int v12, .ref ta])), (sa, .inl (dA 0, 718, .inl f))]) [0, 1] rfl) (va_recv hK hP (ci := 4) (q0 := 0) rfl rfl) rfl rfl hl.1 (Nat.le_of_ble_eq_true rfl) dX4_serves_36 ⟨Nat.le_of_ble_eq_true rfl, Nat.le_of_ble_eq_true rfl⟩ (fun r_11 H locs hQ hF hS => ?_)
        have hP := va_P.ro hF hP
        obtain rfl : sbf f 1 1 = r_11 := hQ.symm
        refine lv_aload_n hx hb dX4_serves_39 rfl (lv_at hl 2 rfl) ?_
        refine lv_iconst (v := nI (0)) hx hb dX4_serves_40 (by decide) ?_
        refine lv_iconst (v := nI (1)) hx hb dX4_serves_41 (by decide) ?_
        refine z_cVi (As := [.int (nI (0)), .int (nI (1))]) (rest := [.int (sbf f 1 1)]) ⟨hx, hb, hml, hown, hts⟩ (mX4_ofStandby l D dA ad H.size m0 sa pa ha xa ta v3 v4 v6 v7 v8 v9 v10 v11 v12 f 0 1 (by omega) (by omega)) (cwV 2 hts (lw_V q1420 q1422 qs30 q67 q1423) rfl rfl rfl (by decide +kernel) ⟨Nat.le_of_ble_eq_true rfl, Nat.le_of_ble_eq_true rfl⟩) hC hS (fun _ h => hA _ (Nat.le_trans hS.1 h)) (hP.sub (ws' := [(m0, .inr (4, [.ref sa, .ref pa, .ref ha, .int v3, .int v4, .ref xa, .int v6, .int v7, .int v8, .int v9, .int v10, .int v11, .int v12, .ref ta])), (sa, .inl (dA 0, 718, .inl f))]) [0, 1] rfl) (va_recv hK hP (ci := 4) (q0 := 0) rfl rfl) rfl rfl hl.1 (Nat.le_of_ble_eq_true rfl) dX4_serves_42 ⟨Nat.le_of_ble_eq_true rfl, Nat.le_of_ble_eq_true rfl⟩ (fun r_12 H locs hQ hF hS => ?_)
        have hP := va_P.ro hF hP
        obtain rfl : sbf f 0 1 = r_12 := hQ.symm
        refine lv_icmp_le (tgt := 52) hx hb dX4_serves_45 (by decide) (fun c_13 => ?_) (fun c_13 => ?_)
        · refine lv_iconst (v := nI (0)) hx hb dX4_serves_52 (by decide) ?_
          refine lv_goto (tgt := 74) hx hb dX4_serves_53 (by decide) ?_
          exact z_iret (v := nI (0)) hx hb hr hS (by unfold aServes; (repeat' split) <;> first | rfl | contradiction | (exfalso; simp_all; done)) (by omega) (by omega) dX4_serves_74
        · refine lv_iconst (v := nI (1)) hx hb dX4_serves_48 (by decide) ?_
          refine lv_goto (tgt := 74) hx hb dX4_serves_49 (by decide) ?_
          exact z_iret (v := nI (1)) hx hb hr hS (by unfold aServes; (repeat' split) <;> first | rfl | contradiction | (exfalso; simp_all; done)) (by omega) (by omega) dX4_serves_74
  · have c_2 := bI_0.1 c_2
    refine lv_ldc (v := (-1000001)) hx hb hown (hts _ q1382) dX4_serves_8 ?_
    exact z_iret (v := (-1000001)) hx hb hr hS (by unfold aServes; (repeat' split) <;> first | rfl | contradiction | (exfalso; simp_all; done)) (by omega) (by omega) dX4_serves_10

set_option maxHeartbeats 4000000 in
set_option maxRecDepth 100000 in
theorem mX4_recordOf (l : Launch) (D : va_G) (dA : Nat → ClassId) (ad : Nat → Nat) (sz : Nat) (m0 : Nat) (sa : Nat) (pa : Nat) (ha : Nat) (xa : Nat) (ta : Nat) (v3 : Int32) (v4 : Int32) (v6 : Int32) (v7 : Int32) (v8 : Int32) (v9 : Int32) (v10 : Int32) (v11 : Int32) (v12 : Int32) (f : Nat → Int32) (r0 : Int32) (w0 : Int32) (hI : InvA f) : Met l yX4_recordOf (ws_ yX4_recordOf cX4_recordOf 3 (some .int)) ({ frames := 3, cells := 0, slots := 0, locals := 90 }) (va_Pc [.ref m0, .int r0, .int w0] (zP D dA ad (fun q => sz ≤ q) sz (fun H => va_P D vwCl [(m0, .inr (4, [.ref sa, .ref pa, .ref ha, .int v3, .int v4, .ref xa, .int v6, .int v7, .int v8, .int v9, .int v10, .int v11, .int v12, .ref ta])), (sa, .inl (dA 0, 718, .inl f))] H))) (zQi (fun rz H => rz = aRecordOf f r0 w0) (fun q => sz ≤ q)) (0) (0) (fun q => sz ≤ q) := by
  refine Met.ofW (cc := cX4_recordOf) (maxL := 3) (ret := (some .int)) (by decide) rfl ?_
  intro p e s m args below meth c s₁ B hml hv
  obtain ⟨rfl, hsz, hC, hP⟩ := hv
  have hx := B.exec
  have hb := B.bytes
  have hr := B.returns
  have hts := atoms_spec (ws := ws_ yX4_recordOf cX4_recordOf 3 (some .int)) B.pre
  have hts : ∀ w ∈ lw_all, w.before _ s = true := fun w h => hts w (List.mem_cons_of_mem _ h)
  have hown : s.vm.findClass RX4 = some m.cls := findClass_of_methodNamed B.named
  have hlocks := B.notSynchronized
  subst hsz
  have hK := hC.K
  have hA : ∀ q : Nat, s.heap.size ≤ q → s.heap.size ≤ q := fun _ h => h
  have hS : va_S (fun q => s.heap.size ≤ q) s.heap s.heap [] := va_S.rf
  have hP : va_P D vwCl [(m0, .inr (4, [.ref sa, .ref pa, .ref ha, .int v3, .int v4, .ref xa, .int v6, .int v7, .int v8, .int v9, .int v10, .int v11, .int v12, .ref ta])), (sa, .inl (dA 0, 718, .inl f))] s.heap := hP
  obtain ⟨hf0, hn, hsb, hrt, hrt2⟩ := hI
  have hl := lv_entry ([.ref m0, .int r0, .int w0]) (n := 3) (Nat.le_of_ble_eq_true rfl)
  rw [lg_entry_eq]
  generalize (lg_sl ([.ref m0, .int r0, .int w0]) ++ List.replicate (3 - (lg_sl ([.ref m0, .int r0, .int w0])).length) Slot.unset).toArray = ls at hl ⊢
  have hl : lv_has ls 3 [(0, .ref m0), (1, .int r0), (2, .int w0)] := hl
  refine lv_iload_n hx hb dX4_recordOf_0 rfl (lv_at hl 1 rfl) ?_
  refine lv_iconst (v := nI (1)) hx hb dX4_recordOf_1 (by decide) ?_
  refine lv_icmp_lt (tgt := 14) hx hb dX4_recordOf_2 (by decide) (fun c_1 => ?_) (fun c_1 => ?_)
  · refine lv_ldc (v := (-1000001)) hx hb hown (hts _ q1382) dX4_recordOf_14 ?_
    exact z_iret (v := (-1000001)) hx hb hr hS (by unfold aRecordOf; rw [hf0]; (repeat' split) <;> first | rfl | contradiction | (exfalso; simp_all; done)) (by omega) (by omega) dX4_recordOf_16
  · refine lv_iload_n hx hb dX4_recordOf_5 rfl (lv_at hl 2 rfl) ?_
    refine lv_iconst (v := nI (0)) hx hb dX4_recordOf_6 (by decide) ?_
    refine lv_iconst (v := nI (4)) hx hb dX4_recordOf_7 (by decide) ?_
    refine z_cSi (As := [.int w0, .int (nI (0)), .int (nI (4))]) (rest := []) ⟨hx, hb, hml, hown, hts⟩ (mX4_in l D dA ad s.heap.size w0 (nI (0)) (nI (4))) (va_cwS 3 hts (lw_S q1379 q1380 q67 q1381) rfl rfl rfl (by decide +kernel) ⟨Nat.le_of_ble_eq_true rfl, Nat.le_of_ble_eq_true rfl⟩) hC hS (fun _ h => hA _ (Nat.le_trans hS.1 h)) trivial rfl rfl hl.1 (Nat.le_of_ble_eq_true rfl) dX4_recordOf_8 ⟨Nat.le_of_ble_eq_true rfl, Nat.le_of_ble_eq_true rfl⟩ (fun r_2 H locs hQ hF hS => ?_)
    have hP := va_P.ro hF hP
    obtain rfl : bI ((nI (0)) ≤ w0 ∧ w0 ≤ (nI (4))) = r_2 := hQ.symm
    refine lv_if_ne (tgt := 17) hx hb dX4_recordOf_11 (by decide) (fun c_3 => ?_) (fun c_3 => ?_)
    · have c_3 := bI_1.1 c_3
      obtain ⟨w, hw, rfl⟩ := zr_of (N := 4) c_3 (by decide)
      refine lv_iload_n hx hb dX4_recordOf_17 rfl (lv_at hl 1 rfl) ?_
      refine lv_aload_n hx hb dX4_recordOf_18 rfl (lv_at hl 0 rfl) ?_
      refine va_get (D := D) (ci := 4) (v := .ref sa) (C := RX4) (T := TX4) (N := 14) hx hb hts in_X4 hown hK hP 0 rfl rfl 0 (by decide) (hts _ q1329) (fun _ h9 => h9) rfl dX4_recordOf_19 ?_
      refine lv_iconst (v := nI (0)) hx hb dX4_recordOf_22 (by decide) ?_
      refine va_iald hx hb hK hP 1 0 rfl rfl (vp_in_nI (by omega) (by omega)) dX4_recordOf_23 ?_
      refine lv_tope (y := f 0) (by rw [nI_clamp (by omega)]) ?_
      refine lv_tope (y := nI (rN f)) (hf0) ?_
      refine lv_icmp_le (tgt := 32) hx hb dX4_recordOf_24 (by decide) (fun c_4 => ?_) (fun c_4 => ?_)
      · obtain ⟨r, hr9, rfl⟩ := zr_of (k := r0) (N := rN f) ⟨Int32.le_trans (by decide) (Int32.not_lt.1 c_1), c_4⟩ (by omega)
        have hr1 := (nI_leI (by omega) (by omega)).1 (Int32.not_lt.1 c_1)
        refine lv_aload_n hx hb dX4_recordOf_32 rfl (lv_at hl 0 rfl) ?_
        refine lv_iload_n hx hb dX4_recordOf_33 rfl (lv_at hl 1 rfl) ?_
        refine lv_iload_n hx hb dX4_recordOf_34 rfl (lv_at hl 2 rfl) ?_
        refine z_cVi (As := [.int (nI (r)), .int (nI (w))]) (rest := []) ⟨hx, hb, hml, hown, hts⟩ (mX4_ofRecord l D dA ad H.size m0 sa pa ha xa ta v3 v4 v6 v7 v8 v9 v10 v11 v12 f r w (by omega) (by omega) (by omega)) (cwV 2 hts (lw_V q1452 q1454 qs35 q67 q1455) rfl rfl rfl (by decide +kernel) ⟨Nat.le_of_ble_eq_true rfl, Nat.le_of_ble_eq_true rfl⟩) hC hS (fun _ h => hA _ (Nat.le_trans hS.1 h)) (hP.sub (ws' := [(m0, .inr (4, [.ref sa, .ref pa, .ref ha, .int v3, .int v4, .ref xa, .int v6, .int v7, .int v8, .int v9, .int v10, .int v11, .int v12, .ref ta])), (sa, .inl (dA 0, 718, .inl f))]) [0, 1] rfl) (va_recv hK hP (ci := 4) (q0 := 0) rfl rfl) rfl rfl hl.1 (Nat.le_of_ble_eq_true rfl) dX4_recordOf_35 ⟨Nat.le_of_ble_eq_true rfl, Nat.le_of_ble_eq_true rfl⟩ (fun r_5 H locs hQ hF hS => ?_)
        have hP := va_P.ro hF hP
        obtain rfl : rcf f r w = r_5 := hQ.symm
        exact z_iret (v := rcf f r w) hx hb hr hS (by unfold aRecordOf; rw [hf0]; simp only [nI_clamp (show w < 2 ^ 31 by omega), nI_clamp (show r < 2 ^ 31 by omega)]; (repeat' split) <;> first | rfl | contradiction | (exfalso; simp_all; done)) (by omega) (by omega) dX4_recordOf_38
      · refine lv_ldc (v := (-1000004)) hx hb hown (hts _ q1408) dX4_recordOf_27 ?_
        refine lv_goto (tgt := 38) hx hb dX4_recordOf_29 (by decide) ?_
        exact z_iret (v := (-1000004)) hx hb hr hS (by unfold aRecordOf; rw [hf0]; simp only [nI_clamp (show w < 2 ^ 31 by omega)]; (repeat' split) <;> first | rfl | contradiction | (exfalso; simp_all; done)) (by omega) (by omega) dX4_recordOf_38
    · have c_3 := bI_0.1 c_3
      refine lv_ldc (v := (-1000001)) hx hb hown (hts _ q1382) dX4_recordOf_14 ?_
      exact z_iret (v := (-1000001)) hx hb hr hS (by unfold aRecordOf; rw [hf0]; (repeat' split) <;> first | rfl | contradiction | (exfalso; simp_all; done)) (by omega) (by omega) dX4_recordOf_16

set_option maxHeartbeats 4000000 in
set_option maxRecDepth 100000 in
theorem mX4_unlike (l : Launch) (D : va_G) (dA : Nat → ClassId) (ad : Nat → Nat) (sz : Nat) (m0 : Nat) (sa : Nat) (pa : Nat) (ha : Nat) (xa : Nat) (ta : Nat) (v3 : Int32) (v4 : Int32) (v6 : Int32) (v7 : Int32) (v8 : Int32) (v9 : Int32) (v10 : Int32) (v11 : Int32) (v12 : Int32) (f : Nat → Int32) (b : Nat) (h1 : b < 2) (hI : InvA f) : Met l yX4_unlike (ws_ yX4_unlike cX4_unlike 4 (some .int)) ({ frames := 4, cells := 0, slots := 0, locals := 120 }) (va_Pc [.ref m0, .int (nI (b))] (zP D dA ad (fun q => sz ≤ q) sz (fun H => va_P D vwCl [(m0, .inr (4, [.ref sa, .ref pa, .ref ha, .int v3, .int v4, .ref xa, .int v6, .int v7, .int v8, .int v9, .int v10, .int v11, .int v12, .ref ta])), (sa, .inl (dA 0, 718, .inl f))] H))) (zQi (fun rz H => rz = nI (unlike f b 24)) (fun q => sz ≤ q)) (0) (0) (fun q => sz ≤ q) := by
  refine Met.ofW (cc := cX4_unlike) (maxL := 4) (ret := (some .int)) (by decide) rfl ?_
  intro p e s m args below meth c s₁ B hml hv
  obtain ⟨rfl, hsz, hC, hP⟩ := hv
  have hx := B.exec
  have hb := B.bytes
  have hr := B.returns
  have hts := atoms_spec (ws := ws_ yX4_unlike cX4_unlike 4 (some .int)) B.pre
  have hts : ∀ w ∈ lw_all, w.before _ s = true := fun w h => hts w (List.mem_cons_of_mem _ h)
  have hown : s.vm.findClass RX4 = some m.cls := findClass_of_methodNamed B.named
  have hlocks := B.notSynchronized
  subst hsz
  have hK := hC.K
  have hA : ∀ q : Nat, s.heap.size ≤ q → s.heap.size ≤ q := fun _ h => h
  have hS : va_S (fun q => s.heap.size ≤ q) s.heap s.heap [] := va_S.rf
  have hP : va_P D vwCl [(m0, .inr (4, [.ref sa, .ref pa, .ref ha, .int v3, .int v4, .ref xa, .int v6, .int v7, .int v8, .int v9, .int v10, .int v11, .int v12, .ref ta])), (sa, .inl (dA 0, 718, .inl f))] s.heap := hP
  obtain ⟨hf0, hn, hsb, hrt, hrt2⟩ := hI
  obtain ⟨hrc, hap, har, hrl⟩ := hsb b h1
  have hl := lv_entry ([.ref m0, .int (nI (b))]) (n := 4) (Nat.le_of_ble_eq_true rfl)
  rw [lg_entry_eq]
  generalize (lg_sl ([.ref m0, .int (nI (b))]) ++ List.replicate (4 - (lg_sl ([.ref m0, .int (nI (b))])).length) Slot.unset).toArray = ls at hl ⊢
  have hl : lv_has ls 4 [(0, .ref m0), (1, .int (nI (b)))] := hl
  refine lv_iconst (v := nI (0)) hx hb dX4_unlike_0 (by decide) ?_
  refine lv_istore_n (lv' := [(2, .int (nI (0))), (0, .ref m0), (1, .int (nI (b)))]) hx hb dX4_unlike_1 rfl hl (by decide) rfl (fun ls hl => ?_)
  refine lv_iconst (v := nI (0)) hx hb dX4_unlike_2 (by decide) ?_
  refine lv_istore_n (lv' := [(3, .int (nI (0))), (2, .int (nI (0))), (0, .ref m0), (1, .int (nI (b)))]) hx hb dX4_unlike_3 rfl hl (by decide) rfl (fun ls hl => ?_)
  refine z_loop (σ := Nat) (fun i => 24 - i) (fun i H locs ls => va_P D vwCl [(m0, .inr (4, [.ref sa, .ref pa, .ref ha, .int v3, .int v4, .ref xa, .int v6, .int v7, .int v8, .int v9, .int v10, .int v11, .int v12, .ref ta])), (sa, .inl (dA 0, 718, .inl f))] H ∧ va_S (fun q => s.heap.size ≤ q) s.heap H locs ∧ lv_has ls 4 [(0, .ref m0), (1, .int (nI (b))), (2, .int (nI (unlike f b i))), (3, .int (nI (i)))] ∧ i ≤ 24) (0) ⟨hP, hS, (lv_sub (l' := [(0, .ref m0), (1, .int (nI (b))), (2, .int (nI (unlike f b 0))), (3, .int (nI (0)))]) hl [2, 3, 1, 0] rfl), by omega⟩ ?_
  intro i H locs ls ⟨hP, hS, hl, hi⟩ ih_4
  refine lv_iload_n hx hb dX4_unlike_4 rfl (lv_at hl 3 rfl) ?_
  refine lv_bipush (v := nI (24)) hx hb dX4_unlike_5 (by decide) ?_
  refine lv_icmp_ge (tgt := 49) hx hb dX4_unlike_7 (by decide) (fun c_1 => ?_) (fun c_1 => ?_)
  · have c_1 := (nI_leI (by omega) (by omega)).1 c_1
    refine lv_iload_n hx hb dX4_unlike_49 rfl (lv_at hl 2 rfl) ?_
    exact z_iret (v := nI (unlike f b i)) hx hb hr hS (by rw [show i = 24 by omega]) (by omega) (by omega) dX4_unlike_50
  · have c_1 := mt (nI_leI (by omega) (by omega)).2 c_1
    refine lv_iload_n hx hb dX4_unlike_10 rfl (lv_at hl 2 rfl) ?_
    refine lv_aload_n hx hb dX4_unlike_11 rfl (lv_at hl 0 rfl) ?_
    refine lv_aload_n hx hb dX4_unlike_12 rfl (lv_at hl 0 rfl) ?_
    refine lv_iload_n hx hb dX4_unlike_13 rfl (lv_at hl 1 rfl) ?_
    refine lv_iconst (v := nI (1)) hx hb dX4_unlike_14 (by decide) ?_
    refine z_cVi (As := [.int (nI (b)), .int (nI (1))]) (rest := [.ref m0, .int (nI (unlike f b i))]) ⟨hx, hb, hml, hown, hts⟩ (mX4_ofStandby l D dA ad H.size m0 sa pa ha xa ta v3 v4 v6 v7 v8 v9 v10 v11 v12 f b 1 (by omega) (by omega)) (cwV 2 hts (lw_V q1420 q1422 qs30 q67 q1423) rfl rfl rfl (by decide +kernel) ⟨Nat.le_of_ble_eq_true rfl, Nat.le_of_ble_eq_true rfl⟩) hC hS (fun _ h => hA _ (Nat.le_trans hS.1 h)) (hP.sub (ws' := [(m0, .inr (4, [.ref sa, .ref pa, .ref ha, .int v3, .int v4, .ref xa, .int v6, .int v7, .int v8, .int v9, .int v10, .int v11, .int v12, .ref ta])), (sa, .inl (dA 0, 718, .inl f))]) [0, 1] rfl) (va_recv hK hP (ci := 4) (q0 := 0) rfl rfl) rfl rfl hl.1 (Nat.le_of_ble_eq_true rfl) dX4_unlike_15 ⟨Nat.le_of_ble_eq_true rfl, Nat.le_of_ble_eq_true rfl⟩ (fun r_2 H locs hQ hF hS => ?_)
    have hP := va_P.ro hF hP
    obtain rfl : sbf f b 1 = r_2 := hQ.symm
    refine lv_tope (y := nI (apN f b)) (hap) ?_
    refine lv_iload_n hx hb dX4_unlike_18 rfl (lv_at hl 3 rfl) ?_
    refine z_cVi (As := [.int (nI (apN f b)), .int (nI (i))]) (rest := [.int (nI (unlike f b i))]) ⟨hx, hb, hml, hown, hts⟩ (mX4_valueAt l D dA ad H.size m0 sa pa ha xa ta v3 v4 v6 v7 v8 v9 v10 v11 v12 f (apN f b) (nI (i)) (rN f) (hf0) (hn) (by omega)) (cwV 2 hts (lw_V q1492 q1494 qs41 q67 q1495) rfl rfl rfl (by decide +kernel) ⟨Nat.le_of_ble_eq_true rfl, Nat.le_of_ble_eq_true rfl⟩) hC hS (fun _ h => hA _ (Nat.le_trans hS.1 h)) (hP.sub (ws' := [(m0, .inr (4, [.ref sa, .ref pa, .ref ha, .int v3, .int v4, .ref xa, .int v6, .int v7, .int v8, .int v9, .int v10, .int v11, .int v12, .ref ta])), (sa, .inl (dA 0, 718, .inl f))]) [0, 1] rfl) (va_recv hK hP (ci := 4) (q0 := 0) rfl rfl) rfl rfl hl.1 (Nat.le_of_ble_eq_true rfl) dX4_unlike_19 ⟨Nat.le_of_ble_eq_true rfl, Nat.le_of_ble_eq_true rfl⟩ (fun r_3 H locs hQ hF hS => ?_)
    have hP := va_P.ro hF hP
    obtain rfl : valueAt f (rN f) (nI (i)) (apN f b) = r_3 := hQ.symm
    refine lv_aload_n hx hb dX4_unlike_22 rfl (lv_at hl 0 rfl) ?_
    refine lv_aload_n hx hb dX4_unlike_23 rfl (lv_at hl 0 rfl) ?_
    refine va_get (D := D) (ci := 4) (v := .ref sa) (C := RX4) (T := TX4) (N := 14) hx hb hts in_X4 hown hK hP 0 rfl rfl 0 (by decide) (hts _ q1329) (fun _ h9 => h9) rfl dX4_unlike_24 ?_
    refine lv_iconst (v := nI (0)) hx hb dX4_unlike_27 (by decide) ?_
    refine va_iald hx hb hK hP 1 0 rfl rfl (vp_in_nI (by omega) (by omega)) dX4_unlike_28 ?_
    refine lv_tope (y := f 0) (by rw [nI_clamp (by omega)]) ?_
    refine lv_tope (y := nI (rN f)) (hf0) ?_
    refine lv_iload_n hx hb dX4_unlike_29 rfl (lv_at hl 3 rfl) ?_
    refine z_cVi (As := [.int (nI (rN f)), .int (nI (i))]) (rest := [.int (valueAt f (rN f) (nI (i)) (apN f b)), .int (nI (unlike f b i))]) ⟨hx, hb, hml, hown, hts⟩ (mX4_valueAt l D dA ad H.size m0 sa pa ha xa ta v3 v4 v6 v7 v8 v9 v10 v11 v12 f (rN f) (nI (i)) (rN f) (hf0) (hn) (by omega)) (cwV 2 hts (lw_V q1492 q1494 qs41 q67 q1495) rfl rfl rfl (by decide +kernel) ⟨Nat.le_of_ble_eq_true rfl, Nat.le_of_ble_eq_true rfl⟩) hC hS (fun _ h => hA _ (Nat.le_trans hS.1 h)) (hP.sub (ws' := [(m0, .inr (4, [.ref sa, .ref pa, .ref ha, .int v3, .int v4, .ref xa, .int v6, .int v7, .int v8, .int v9, .int v10, .int v11, .int v12, .ref ta])), (sa, .inl (dA 0, 718, .inl f))]) [0, 1] rfl) (va_recv hK hP (ci := 4) (q0 := 0) rfl rfl) rfl rfl hl.1 (Nat.le_of_ble_eq_true rfl) dX4_unlike_30 ⟨Nat.le_of_ble_eq_true rfl, Nat.le_of_ble_eq_true rfl⟩ (fun r_4 H locs hQ hF hS => ?_)
    have hP := va_P.ro hF hP
    obtain rfl : valueAt f (rN f) (nI (i)) (rN f) = r_4 := hQ.symm
    refine lv_icmp_eq (tgt := 40) hx hb dX4_unlike_33 (by decide) (fun c_5 => ?_) (fun c_5 => ?_)
    · refine lv_iconst (v := nI (0)) hx hb dX4_unlike_40 (by decide) ?_
      refine lv_iadd hx hb dX4_unlike_41 ?_
      refine lv_tope (y := nI ((unlike f b i) + 0)) (nI_add _ _) ?_
      refine lv_tope (y := nI (unlike f b (i + 1))) (by simp only [unlike]; split <;> first | rfl | contradiction) ?_
      refine lv_istore_n (lv' := [(2, .int (nI (unlike f b (i + 1)))), (0, .ref m0), (1, .int (nI (b))), (3, .int (nI (i)))]) hx hb dX4_unlike_42 rfl hl (by decide) rfl (fun ls hl => ?_)
      refine lv_iinc (v := nI (i + 1)) (lv' := [(3, .int (nI (i + 1))), (2, .int (nI (unlike f b (i + 1)))), (0, .ref m0), (1, .int (nI (b)))]) hx hb dX4_unlike_43 hl (k := 3) rfl (nI_add _ _) (by decide) rfl (fun ls hl => ?_)
      refine lv_goto (tgt := 4) hx hb dX4_unlike_46 (by decide) ?_
      exact ih_4 (i + 1) H locs ls ⟨hP, hS, (lv_sub (l' := [(0, .ref m0), (1, .int (nI (b))), (2, .int (nI (unlike f b (i + 1)))), (3, .int (nI ((i + 1))))]) hl [2, 3, 1, 0] rfl), by omega⟩ (by omega)
    · refine lv_iconst (v := nI (1)) hx hb dX4_unlike_36 (by decide) ?_
      refine lv_goto (tgt := 41) hx hb dX4_unlike_37 (by decide) ?_
      refine lv_iadd hx hb dX4_unlike_41 ?_
      refine lv_tope (y := nI ((unlike f b i) + 1)) (nI_add _ _) ?_
      refine lv_tope (y := nI (unlike f b (i + 1))) (by simp only [unlike]; split <;> first | rfl | contradiction) ?_
      refine lv_istore_n (lv' := [(2, .int (nI (unlike f b (i + 1)))), (0, .ref m0), (1, .int (nI (b))), (3, .int (nI (i)))]) hx hb dX4_unlike_42 rfl hl (by decide) rfl (fun ls hl => ?_)
      refine lv_iinc (v := nI (i + 1)) (lv' := [(3, .int (nI (i + 1))), (2, .int (nI (unlike f b (i + 1)))), (0, .ref m0), (1, .int (nI (b)))]) hx hb dX4_unlike_43 hl (k := 3) rfl (nI_add _ _) (by decide) rfl (fun ls hl => ?_)
      refine lv_goto (tgt := 4) hx hb dX4_unlike_46 (by decide) ?_
      exact ih_4 (i + 1) H locs ls ⟨hP, hS, (lv_sub (l' := [(0, .ref m0), (1, .int (nI (b))), (2, .int (nI (unlike f b (i + 1)))), (3, .int (nI ((i + 1))))]) hl [2, 3, 1, 0] rfl), by omega⟩ (by omega)

set_option maxHeartbeats 4000000 in
set_option maxRecDepth 100000 in
theorem mX4_standbyOf (l : Launch) (D : va_G) (dA : Nat → ClassId) (ad : Nat → Nat) (sz : Nat) (m0 : Nat) (sa : Nat) (pa : Nat) (ha : Nat) (xa : Nat) (ta : Nat) (v3 : Int32) (v4 : Int32) (v6 : Int32) (v7 : Int32) (v8 : Int32) (v9 : Int32) (v10 : Int32) (v11 : Int32) (v12 : Int32) (f : Nat → Int32) (sb : Int32) (w0 : Int32) (hI : InvA f) : Met l yX4_standbyOf (ws_ yX4_standbyOf cX4_standbyOf 4 (some .int)) ({ frames := 5, cells := 0, slots := 0, locals := 150 }) (va_Pc [.ref m0, .int sb, .int w0] (zP D dA ad (fun q => sz ≤ q) sz (fun H => va_P D vwCl [(m0, .inr (4, [.ref sa, .ref pa, .ref ha, .int v3, .int v4, .ref xa, .int v6, .int v7, .int v8, .int v9, .int v10, .int v11, .int v12, .ref ta])), (sa, .inl (dA 0, 718, .inl f))] H))) (zQi (fun rz H => rz = aStandbyOf f sb w0) (fun q => sz ≤ q)) (0) (0) (fun q => sz ≤ q) := by
  refine Met.ofW (cc := cX4_standbyOf) (maxL := 4) (ret := (some .int)) (by decide) rfl ?_
  intro p e s m args below meth c s₁ B hml hv
  obtain ⟨rfl, hsz, hC, hP⟩ := hv
  have hx := B.exec
  have hb := B.bytes
  have hr := B.returns
  have hts := atoms_spec (ws := ws_ yX4_standbyOf cX4_standbyOf 4 (some .int)) B.pre
  have hts : ∀ w ∈ lw_all, w.before _ s = true := fun w h => hts w (List.mem_cons_of_mem _ h)
  have hown : s.vm.findClass RX4 = some m.cls := findClass_of_methodNamed B.named
  have hlocks := B.notSynchronized
  subst hsz
  have hK := hC.K
  have hA : ∀ q : Nat, s.heap.size ≤ q → s.heap.size ≤ q := fun _ h => h
  have hS : va_S (fun q => s.heap.size ≤ q) s.heap s.heap [] := va_S.rf
  have hP : va_P D vwCl [(m0, .inr (4, [.ref sa, .ref pa, .ref ha, .int v3, .int v4, .ref xa, .int v6, .int v7, .int v8, .int v9, .int v10, .int v11, .int v12, .ref ta])), (sa, .inl (dA 0, 718, .inl f))] s.heap := hP
  have hI0 := hI
  obtain ⟨hf0, hn, hsb, hrt, hrt2⟩ := hI
  have hl := lv_entry ([.ref m0, .int sb, .int w0]) (n := 4) (Nat.le_of_ble_eq_true rfl)
  rw [lg_entry_eq]
  generalize (lg_sl ([.ref m0, .int sb, .int w0]) ++ List.replicate (4 - (lg_sl ([.ref m0, .int sb, .int w0])).length) Slot.unset).toArray = ls at hl ⊢
  have hl : lv_has ls 4 [(0, .ref m0), (1, .int sb), (2, .int w0)] := hl
  refine lv_iload_n hx hb dX4_standbyOf_0 rfl (lv_at hl 1 rfl) ?_
  refine z_cSi (As := [.int sb]) (rest := []) ⟨hx, hb, hml, hown, hts⟩ (mX4_isStandby l D dA ad s.heap.size sb) (va_cwS 1 hts (lw_S q1417 q1418 q67 q1419) rfl rfl rfl (by decide +kernel) ⟨Nat.le_of_ble_eq_true rfl, Nat.le_of_ble_eq_true rfl⟩) hC hS (fun _ h => hA _ (Nat.le_trans hS.1 h)) trivial rfl rfl hl.1 (Nat.le_of_ble_eq_true rfl) dX4_standbyOf_1 ⟨Nat.le_of_ble_eq_true rfl, Nat.le_of_ble_eq_true rfl⟩ (fun r_1 H locs hQ hF hS => ?_)
  have hP := va_P.ro hF hP
  obtain rfl : bI (nI (0) ≤ sb ∧ sb ≤ nI (1)) = r_1 := hQ.symm
  refine lv_if_eq (tgt := 17) hx hb dX4_standbyOf_4 (by decide) (fun c_2 => ?_) (fun c_2 => ?_)
  · have c_2 := bI_0.1 c_2
    refine lv_ldc (v := (-1000001)) hx hb hown (hts _ q1382) dX4_standbyOf_17 ?_
    exact z_iret (v := (-1000001)) hx hb hr hS (by unfold aStandbyOf; (repeat' split) <;> first | rfl | contradiction) (by omega) (by omega) dX4_standbyOf_19
  · have c_2 := bI_1.1 c_2
    obtain ⟨b, h1, rfl⟩ := zr_of (N := 1) c_2 (by decide)
    have h1 : b < 2 := (by omega)
    obtain ⟨hrc, hap, har, hrl⟩ := hsb b h1
    refine lv_iload_n hx hb dX4_standbyOf_7 rfl (lv_at hl 2 rfl) ?_
    refine lv_iconst (v := nI (0)) hx hb dX4_standbyOf_8 (by decide) ?_
    refine lv_bipush (v := nI (8)) hx hb dX4_standbyOf_9 (by decide) ?_
    refine z_cSi (As := [.int w0, .int (nI (0)), .int (nI (8))]) (rest := []) ⟨hx, hb, hml, hown, hts⟩ (mX4_in l D dA ad H.size w0 (nI (0)) (nI (8))) (va_cwS 3 hts (lw_S q1379 q1380 q67 q1381) rfl rfl rfl (by decide +kernel) ⟨Nat.le_of_ble_eq_true rfl, Nat.le_of_ble_eq_true rfl⟩) hC hS (fun _ h => hA _ (Nat.le_trans hS.1 h)) trivial rfl rfl hl.1 (Nat.le_of_ble_eq_true rfl) dX4_standbyOf_11 ⟨Nat.le_of_ble_eq_true rfl, Nat.le_of_ble_eq_true rfl⟩ (fun r_3 H locs hQ hF hS => ?_)
    have hP := va_P.ro hF hP
    obtain rfl : bI ((nI (0)) ≤ w0 ∧ w0 ≤ (nI (8))) = r_3 := hQ.symm
    refine lv_if_ne (tgt := 20) hx hb dX4_standbyOf_14 (by decide) (fun c_4 => ?_) (fun c_4 => ?_)
    · have c_4 := bI_1.1 c_4
      obtain ⟨w, hw, rfl⟩ := zr_of (N := 8) c_4 (by decide)
      refine lv_aload_n hx hb dX4_standbyOf_20 rfl (lv_at hl 0 rfl) ?_
      refine lv_iload_n hx hb dX4_standbyOf_21 rfl (lv_at hl 1 rfl) ?_
      refine lv_iconst (v := nI (1)) hx hb dX4_standbyOf_22 (by decide) ?_
      refine z_cVi (As := [.int (nI (b)), .int (nI (1))]) (rest := []) ⟨hx, hb, hml, hown, hts⟩ (mX4_ofStandby l D dA ad H.size m0 sa pa ha xa ta v3 v4 v6 v7 v8 v9 v10 v11 v12 f b 1 (by omega) (by omega)) (cwV 2 hts (lw_V q1420 q1422 qs30 q67 q1423) rfl rfl rfl (by decide +kernel) ⟨Nat.le_of_ble_eq_true rfl, Nat.le_of_ble_eq_true rfl⟩) hC hS (fun _ h => hA _ (Nat.le_trans hS.1 h)) (hP.sub (ws' := [(m0, .inr (4, [.ref sa, .ref pa, .ref ha, .int v3, .int v4, .ref xa, .int v6, .int v7, .int v8, .int v9, .int v10, .int v11, .int v12, .ref ta])), (sa, .inl (dA 0, 718, .inl f))]) [0, 1] rfl) (va_recv hK hP (ci := 4) (q0 := 0) rfl rfl) rfl rfl hl.1 (Nat.le_of_ble_eq_true rfl) dX4_standbyOf_23 ⟨Nat.le_of_ble_eq_true rfl, Nat.le_of_ble_eq_true rfl⟩ (fun r_5 H locs hQ hF hS => ?_)
      have hP := va_P.ro hF hP
      obtain rfl : sbf f b 1 = r_5 := hQ.symm
      refine lv_tope (y := nI (apN f b)) (hap) ?_
      refine lv_istore_n (lv' := [(3, .int (nI (apN f b))), (0, .ref m0), (1, .int (nI (b))), (2, .int (nI (w)))]) hx hb dX4_standbyOf_26 rfl hl (by decide) rfl (fun ls hl => ?_)
      refine lv_iload_n hx hb dX4_standbyOf_27 rfl (lv_at hl 3 rfl) ?_
      rcases (show w = 0 ∨ w = 1 ∨ w = 2 ∨ w = 3 ∨ w = 4 ∨ w = 5 ∨ w = 6 ∨ w = 7 ∨ w = 8 by omega) with rfl | rfl | rfl | rfl | rfl | rfl | rfl | rfl | rfl
      · refine lv_tableIn (off := 48) (tgt := 76) hx hb dX4_standbyOf_28 (by decide) (by decide) (by decide) (by decide) ?_
        refine lv_aload_n hx hb dX4_standbyOf_76 rfl (lv_at hl 1 rfl) ?_
        refine lv_iload_n hx hb dX4_standbyOf_77 rfl (lv_at hl 2 rfl) ?_
        refine lv_iload_n hx hb dX4_standbyOf_78 rfl (lv_at hl 3 rfl) ?_
        refine z_cVi (As := [.int (nI (b)), .int (nI (0))]) (rest := []) ⟨hx, hb, hml, hown, hts⟩ (mX4_ofStandby l D dA ad H.size m0 sa pa ha xa ta v3 v4 v6 v7 v8 v9 v10 v11 v12 f b 0 (by omega) (by omega)) (cwV 2 hts (lw_V q1420 q1422 qs30 q67 q1423) rfl rfl rfl (by decide +kernel) ⟨Nat.le_of_ble_eq_true rfl, Nat.le_of_ble_eq_true rfl⟩) hC hS (fun _ h => hA _ (Nat.le_trans hS.1 h)) (hP.sub (ws' := [(m0, .inr (4, [.ref sa, .ref pa, .ref ha, .int v3, .int v4, .ref xa, .int v6, .int v7, .int v8, .int v9, .int v10, .int v11, .int v12, .ref ta])), (sa, .inl (dA 0, 718, .inl f))]) [0, 1] rfl) (va_recv hK hP (ci := 4) (q0 := 0) rfl rfl) rfl rfl hl.1 (Nat.le_of_ble_eq_true rfl) dX4_standbyOf_79 ⟨Nat.le_of_ble_eq_true rfl, Nat.le_of_ble_eq_true rfl⟩ (fun r_6 H locs hQ hF hS => ?_)
        have hP := va_P.ro hF hP
        obtain rfl : sbf f b 0 = r_6 := hQ.symm
        exact z_iret (v := sbf f b 0) hx hb hr hS (by unfold aStandbyOf; rw [if_pos (zr_in (j := b) (N := 1) (by omega) (by decide)), if_pos (by decide), nI_clamp (show b < 2 ^ 31 by omega)]; first | rfl | (show _ = aStb f b 7; simp only [aStb]; split <;> first | rfl | contradiction)) (by omega) (by omega) dX4_standbyOf_82
      · refine lv_tableIn (off := 48) (tgt := 76) hx hb dX4_standbyOf_28 (by decide) (by decide) (by decide) (by decide) ?_
        refine lv_aload_n hx hb dX4_standbyOf_76 rfl (lv_at hl 1 rfl) ?_
        refine lv_iload_n hx hb dX4_standbyOf_77 rfl (lv_at hl 2 rfl) ?_
        refine lv_iload_n hx hb dX4_standbyOf_78 rfl (lv_at hl 3 rfl) ?_
        refine z_cVi (As := [.int (nI (b)), .int (nI (1))]) (rest := []) ⟨hx, hb, hml, hown, hts⟩ (mX4_ofStandby l D dA ad H.size m0 sa pa ha xa ta v3 v4 v6 v7 v8 v9 v10 v11 v12 f b 1 (by omega) (by omega)) (cwV 2 hts (lw_V q1420 q1422 qs30 q67 q1423) rfl rfl rfl (by decide +kernel) ⟨Nat.le_of_ble_eq_true rfl, Nat.le_of_ble_eq_true rfl⟩) hC hS (fun _ h => hA _ (Nat.le_trans hS.1 h)) (hP.sub (ws' := [(m0, .inr (4, [.ref sa, .ref pa, .ref ha, .int v3, .int v4, .ref xa, .int v6, .int v7, .int v8, .int v9, .int v10, .int v11, .int v12, .ref ta])), (sa, .inl (dA 0, 718, .inl f))]) [0, 1] rfl) (va_recv hK hP (ci := 4) (q0 := 0) rfl rfl) rfl rfl hl.1 (Nat.le_of_ble_eq_true rfl) dX4_standbyOf_79 ⟨Nat.le_of_ble_eq_true rfl, Nat.le_of_ble_eq_true rfl⟩ (fun r_7 H locs hQ hF hS => ?_)
        have hP := va_P.ro hF hP
        obtain rfl : sbf f b 1 = r_7 := hQ.symm
        exact z_iret (v := sbf f b 1) hx hb hr hS (by unfold aStandbyOf; rw [if_pos (zr_in (j := b) (N := 1) (by omega) (by decide)), if_pos (by decide), nI_clamp (show b < 2 ^ 31 by omega)]; first | rfl | (show _ = aStb f b 7; simp only [aStb]; split <;> first | rfl | contradiction)) (by omega) (by omega) dX4_standbyOf_82
      · refine lv_tableIn (off := 55) (tgt := 83) hx hb dX4_standbyOf_28 (by decide) (by decide) (by decide) (by decide) ?_
        refine lv_aload_n hx hb dX4_standbyOf_83 rfl (lv_at hl 1 rfl) ?_
        refine lv_iload_n hx hb dX4_standbyOf_84 rfl (lv_at hl 2 rfl) ?_
        refine z_cVi (As := [.int (nI (b))]) (rest := []) ⟨hx, hb, hml, hown, hts⟩ (mX4_gaps l D dA ad H.size m0 sa pa ha xa ta v3 v4 v6 v7 v8 v9 v10 v11 v12 f b (by omega)) (cwV 1 hts (lw_V q1432 q1434 qs32 q67 q1435) rfl rfl rfl (by decide +kernel) ⟨Nat.le_of_ble_eq_true rfl, Nat.le_of_ble_eq_true rfl⟩) hC hS (fun _ h => hA _ (Nat.le_trans hS.1 h)) (hP.sub (ws' := [(m0, .inr (4, [.ref sa, .ref pa, .ref ha, .int v3, .int v4, .ref xa, .int v6, .int v7, .int v8, .int v9, .int v10, .int v11, .int v12, .ref ta])), (sa, .inl (dA 0, 718, .inl f))]) [0, 1] rfl) (va_recv hK hP (ci := 4) (q0 := 0) rfl rfl) rfl rfl hl.1 (Nat.le_of_ble_eq_true rfl) dX4_standbyOf_85 ⟨Nat.le_of_ble_eq_true rfl, Nat.le_of_ble_eq_true rfl⟩ (fun r_8 H locs hQ hF hS => ?_)
        have hP := va_P.ro hF hP
        obtain rfl : nI (gaps f b 100) = r_8 := hQ.symm
        exact z_iret (v := nI (gaps f b 100)) hx hb hr hS (by unfold aStandbyOf; rw [if_pos (zr_in (j := b) (N := 1) (by omega) (by decide)), if_pos (by decide), nI_clamp (show b < 2 ^ 31 by omega)]; first | rfl | (show _ = aStb f b 7; simp only [aStb]; split <;> first | rfl | contradiction)) (by omega) (by omega) dX4_standbyOf_88
      · refine lv_tableIn (off := 61) (tgt := 89) hx hb dX4_standbyOf_28 (by decide) (by decide) (by decide) (by decide) ?_
        refine lv_aload_n hx hb dX4_standbyOf_89 rfl (lv_at hl 1 rfl) ?_
        refine lv_iload_n hx hb dX4_standbyOf_90 rfl (lv_at hl 2 rfl) ?_
        refine z_cVi (As := [.int (nI (b))]) (rest := []) ⟨hx, hb, hml, hown, hts⟩ (mX4_lowestGap l D dA ad H.size m0 sa pa ha xa ta v3 v4 v6 v7 v8 v9 v10 v11 v12 f b (by omega)) (cwV 1 hts (lw_V q1524 q1526 qs44 q67 q1527) rfl rfl rfl (by decide +kernel) ⟨Nat.le_of_ble_eq_true rfl, Nat.le_of_ble_eq_true rfl⟩) hC hS (fun _ h => hA _ (Nat.le_trans hS.1 h)) (hP.sub (ws' := [(m0, .inr (4, [.ref sa, .ref pa, .ref ha, .int v3, .int v4, .ref xa, .int v6, .int v7, .int v8, .int v9, .int v10, .int v11, .int v12, .ref ta])), (sa, .inl (dA 0, 718, .inl f))]) [0, 1] rfl) (va_recv hK hP (ci := 4) (q0 := 0) rfl rfl) rfl rfl hl.1 (Nat.le_of_ble_eq_true rfl) dX4_standbyOf_91 ⟨Nat.le_of_ble_eq_true rfl, Nat.le_of_ble_eq_true rfl⟩ (fun r_9 H locs hQ hF hS => ?_)
        have hP := va_P.ro hF hP
        obtain rfl : lowG f b = r_9 := hQ.symm
        exact z_iret (v := lowG f b) hx hb hr hS (by unfold aStandbyOf; rw [if_pos (zr_in (j := b) (N := 1) (by omega) (by decide)), if_pos (by decide), nI_clamp (show b < 2 ^ 31 by omega)]; first | rfl | (show _ = aStb f b 7; simp only [aStb]; split <;> first | rfl | contradiction)) (by omega) (by omega) dX4_standbyOf_94
      · refine lv_tableIn (off := 67) (tgt := 95) hx hb dX4_standbyOf_28 (by decide) (by decide) (by decide) (by decide) ?_
        refine lv_aload_n hx hb dX4_standbyOf_95 rfl (lv_at hl 1 rfl) ?_
        refine lv_iload_n hx hb dX4_standbyOf_96 rfl (lv_at hl 2 rfl) ?_
        refine lv_iconst (v := nI (2)) hx hb dX4_standbyOf_97 (by decide) ?_
        refine z_cVi (As := [.int (nI (b)), .int (nI (2))]) (rest := []) ⟨hx, hb, hml, hown, hts⟩ (mX4_ofStandby l D dA ad H.size m0 sa pa ha xa ta v3 v4 v6 v7 v8 v9 v10 v11 v12 f b 2 (by omega) (by omega)) (cwV 2 hts (lw_V q1420 q1422 qs30 q67 q1423) rfl rfl rfl (by decide +kernel) ⟨Nat.le_of_ble_eq_true rfl, Nat.le_of_ble_eq_true rfl⟩) hC hS (fun _ h => hA _ (Nat.le_trans hS.1 h)) (hP.sub (ws' := [(m0, .inr (4, [.ref sa, .ref pa, .ref ha, .int v3, .int v4, .ref xa, .int v6, .int v7, .int v8, .int v9, .int v10, .int v11, .int v12, .ref ta])), (sa, .inl (dA 0, 718, .inl f))]) [0, 1] rfl) (va_recv hK hP (ci := 4) (q0 := 0) rfl rfl) rfl rfl hl.1 (Nat.le_of_ble_eq_true rfl) dX4_standbyOf_98 ⟨Nat.le_of_ble_eq_true rfl, Nat.le_of_ble_eq_true rfl⟩ (fun r_10 H locs hQ hF hS => ?_)
        have hP := va_P.ro hF hP
        obtain rfl : sbf f b 2 = r_10 := hQ.symm
        exact z_iret (v := sbf f b 2) hx hb hr hS (by unfold aStandbyOf; rw [if_pos (zr_in (j := b) (N := 1) (by omega) (by decide)), if_pos (by decide), nI_clamp (show b < 2 ^ 31 by omega)]; first | rfl | (show _ = aStb f b 7; simp only [aStb]; split <;> first | rfl | contradiction)) (by omega) (by omega) dX4_standbyOf_101
      · refine lv_tableIn (off := 74) (tgt := 102) hx hb dX4_standbyOf_28 (by decide) (by decide) (by decide) (by decide) ?_
        refine lv_aload_n hx hb dX4_standbyOf_102 rfl (lv_at hl 1 rfl) ?_
        refine va_get (D := D) (ci := 4) (v := .ref sa) (C := RX4) (T := TX4) (N := 14) hx hb hts in_X4 hown hK hP 0 rfl rfl 0 (by decide) (hts _ q1329) (fun _ h9 => h9) rfl dX4_standbyOf_103 ?_
        refine lv_iconst (v := nI (0)) hx hb dX4_standbyOf_106 (by decide) ?_
        refine va_iald hx hb hK hP 1 0 rfl rfl (vp_in_nI (by omega) (by omega)) dX4_standbyOf_107 ?_
        refine lv_tope (y := f 0) (by rw [nI_clamp (by omega)]) ?_
        refine lv_tope (y := nI (rN f)) (hf0) ?_
        refine lv_iload_n hx hb dX4_standbyOf_108 rfl (lv_at hl 0 rfl) ?_
        refine lv_isub hx hb dX4_standbyOf_109 ?_
        refine lv_tope (y := nI ((rN f) - (apN f b))) (pk_sub (by omega)) ?_
        exact z_iret (v := nI ((rN f) - (apN f b))) hx hb hr hS (by unfold aStandbyOf; rw [if_pos (zr_in (j := b) (N := 1) (by omega) (by decide)), if_pos (by decide), nI_clamp (show b < 2 ^ 31 by omega)]; first | rfl | (show _ = aStb f b 7; simp only [aStb]; split <;> first | rfl | contradiction)) (by omega) (by omega) dX4_standbyOf_110
      · refine lv_tableIn (off := 83) (tgt := 111) hx hb dX4_standbyOf_28 (by decide) (by decide) (by decide) (by decide) ?_
        refine lv_aload_n hx hb dX4_standbyOf_111 rfl (lv_at hl 1 rfl) ?_
        refine lv_iload_n hx hb dX4_standbyOf_112 rfl (lv_at hl 2 rfl) ?_
        refine z_cVi (As := [.int (nI (b))]) (rest := []) ⟨hx, hb, hml, hown, hts⟩ (mX4_wouldBeLost l D dA ad H.size m0 sa pa ha xa ta v3 v4 v6 v7 v8 v9 v10 v11 v12 f b (by omega) (hI0)) (cwV 1 hts (lw_V q1460 q1462 qs36 q67 q1463) rfl rfl rfl (by decide +kernel) ⟨Nat.le_of_ble_eq_true rfl, Nat.le_of_ble_eq_true rfl⟩) hC hS (fun _ h => hA _ (Nat.le_trans hS.1 h)) (hP.sub (ws' := [(m0, .inr (4, [.ref sa, .ref pa, .ref ha, .int v3, .int v4, .ref xa, .int v6, .int v7, .int v8, .int v9, .int v10, .int v11, .int v12, .ref ta])), (sa, .inl (dA 0, 718, .inl f))]) [0, 1] rfl) (va_recv hK hP (ci := 4) (q0 := 0) rfl rfl) rfl rfl hl.1 (Nat.le_of_ble_eq_true rfl) dX4_standbyOf_113 ⟨Nat.le_of_ble_eq_true rfl, Nat.le_of_ble_eq_true rfl⟩ (fun r_11 H locs hQ hF hS => ?_)
        have hP := va_P.ro hF hP
        obtain rfl : nI (lost f b) = r_11 := hQ.symm
        exact z_iret (v := nI (lost f b)) hx hb hr hS (by unfold aStandbyOf; rw [if_pos (zr_in (j := b) (N := 1) (by omega) (by decide)), if_pos (by decide), nI_clamp (show b < 2 ^ 31 by omega)]; first | rfl | (show _ = aStb f b 7; simp only [aStb]; split <;> first | rfl | contradiction)) (by omega) (by omega) dX4_standbyOf_116
      · refine lv_tableIn (off := 89) (tgt := 117) hx hb dX4_standbyOf_28 (by decide) (by decide) (by decide) (by decide) ?_
        refine lv_iload_n hx hb dX4_standbyOf_117 rfl (lv_at hl 0 rfl) ?_
        refine lv_aload_n hx hb dX4_standbyOf_118 rfl (lv_at hl 1 rfl) ?_
        refine va_get (D := D) (ci := 4) (v := .ref sa) (C := RX4) (T := TX4) (N := 14) hx hb hts in_X4 hown hK hP 0 rfl rfl 0 (by decide) (hts _ q1329) (fun _ h9 => h9) rfl dX4_standbyOf_119 ?_
        refine lv_iconst (v := nI (0)) hx hb dX4_standbyOf_122 (by decide) ?_
        refine va_iald hx hb hK hP 1 0 rfl rfl (vp_in_nI (by omega) (by omega)) dX4_standbyOf_123 ?_
        refine lv_tope (y := f 0) (by rw [nI_clamp (by omega)]) ?_
        refine lv_tope (y := nI (rN f)) (hf0) ?_
        refine lv_icmp_ne (tgt := 132) hx hb dX4_standbyOf_124 (by decide) (fun c_12 => ?_) (fun c_12 => ?_)
        · have c_12 := mt (nI_eq (by omega) (by omega)).2 c_12
          refine lv_aload_n hx hb dX4_standbyOf_132 rfl (lv_at hl 1 rfl) ?_
          refine va_get (D := D) (ci := 4) (v := .ref sa) (C := RX4) (T := TX4) (N := 14) hx hb hts in_X4 hown hK hP 0 rfl rfl 0 (by decide) (hts _ q1329) (fun _ h9 => h9) rfl dX4_standbyOf_133 ?_
          refine lv_iconst (v := nI (1)) hx hb dX4_standbyOf_136 (by decide) ?_
          refine va_iald hx hb hK hP 1 0 rfl rfl (vp_in_nI (by omega) (by omega)) dX4_standbyOf_137 ?_
          refine lv_tope (y := f 1) (by rw [nI_clamp (by omega)]) ?_
          refine lv_aload_n hx hb dX4_standbyOf_138 rfl (lv_at hl 1 rfl) ?_
          refine lv_iload_n hx hb dX4_standbyOf_139 rfl (lv_at hl 0 rfl) ?_
          refine lv_iconst (v := nI (1)) hx hb dX4_standbyOf_140 (by decide) ?_
          refine lv_iadd hx hb dX4_standbyOf_141 ?_
          refine lv_tope (y := nI ((apN f b) + 1)) (nI_add _ _) ?_
          refine lv_iconst (v := nI (4)) hx hb dX4_standbyOf_142 (by decide) ?_
          refine z_cVi (As := [.int (nI ((apN f b) + 1)), .int (nI (4))]) (rest := [.int (f 1)]) ⟨hx, hb, hml, hown, hts⟩ (mX4_ofRecord l D dA ad H.size m0 sa pa ha xa ta v3 v4 v6 v7 v8 v9 v10 v11 v12 f ((apN f b) + 1) 4 (by omega) (by omega) (by omega)) (cwV 2 hts (lw_V q1452 q1454 qs35 q67 q1455) rfl rfl rfl (by decide +kernel) ⟨Nat.le_of_ble_eq_true rfl, Nat.le_of_ble_eq_true rfl⟩) hC hS (fun _ h => hA _ (Nat.le_trans hS.1 h)) (hP.sub (ws' := [(m0, .inr (4, [.ref sa, .ref pa, .ref ha, .int v3, .int v4, .ref xa, .int v6, .int v7, .int v8, .int v9, .int v10, .int v11, .int v12, .ref ta])), (sa, .inl (dA 0, 718, .inl f))]) [0, 1] rfl) (va_recv hK hP (ci := 4) (q0 := 0) rfl rfl) rfl rfl hl.1 (Nat.le_of_ble_eq_true rfl) dX4_standbyOf_143 ⟨Nat.le_of_ble_eq_true rfl, Nat.le_of_ble_eq_true rfl⟩ (fun r_13 H locs hQ hF hS => ?_)
          have hP := va_P.ro hF hP
          obtain rfl : rcf f ((apN f b) + 1) 4 = r_13 := hQ.symm
          refine lv_isub hx hb dX4_standbyOf_146 ?_
          exact z_iret (v := (f 1) - (rcf f ((apN f b) + 1) 4)) hx hb hr hS (by unfold aStandbyOf; rw [if_pos (zr_in (j := b) (N := 1) (by omega) (by decide)), if_pos (by decide), nI_clamp (show b < 2 ^ 31 by omega)]; first | rfl | (show _ = aStb f b 7; simp only [aStb]; split <;> first | rfl | contradiction)) (by omega) (by omega) dX4_standbyOf_147
        · have c_12 := (nI_eq (by omega) (by omega)).1 c_12
          refine lv_ldc (v := (-1000004)) hx hb hown (hts _ q1408) dX4_standbyOf_127 ?_
          refine lv_goto (tgt := 147) hx hb dX4_standbyOf_129 (by decide) ?_
          exact z_iret (v := (-1000004)) hx hb hr hS (by unfold aStandbyOf; rw [if_pos (zr_in (j := b) (N := 1) (by omega) (by decide)), if_pos (by decide), nI_clamp (show b < 2 ^ 31 by omega)]; first | rfl | (show _ = aStb f b 7; simp only [aStb]; split <;> first | rfl | contradiction)) (by omega) (by omega) dX4_standbyOf_147
      · refine lv_tableOut (tgt := 148) hx hb dX4_standbyOf_28 (by decide) (by decide) ?_
        refine lv_aload_n hx hb dX4_standbyOf_148 rfl (lv_at hl 1 rfl) ?_
        refine lv_iload_n hx hb dX4_standbyOf_149 rfl (lv_at hl 2 rfl) ?_
        refine z_cVi (As := [.int (nI (b))]) (rest := []) ⟨hx, hb, hml, hown, hts⟩ (mX4_unlike l D dA ad H.size m0 sa pa ha xa ta v3 v4 v6 v7 v8 v9 v10 v11 v12 f b (by omega) (hI0)) (cwV 1 hts (lw_V q1528 q1530 qs45 q67 q1531) rfl rfl rfl (by decide +kernel) ⟨Nat.le_of_ble_eq_true rfl, Nat.le_of_ble_eq_true rfl⟩) hC hS (fun _ h => hA _ (Nat.le_trans hS.1 h)) (hP.sub (ws' := [(m0, .inr (4, [.ref sa, .ref pa, .ref ha, .int v3, .int v4, .ref xa, .int v6, .int v7, .int v8, .int v9, .int v10, .int v11, .int v12, .ref ta])), (sa, .inl (dA 0, 718, .inl f))]) [0, 1] rfl) (va_recv hK hP (ci := 4) (q0 := 0) rfl rfl) rfl rfl hl.1 (Nat.le_of_ble_eq_true rfl) dX4_standbyOf_150 ⟨Nat.le_of_ble_eq_true rfl, Nat.le_of_ble_eq_true rfl⟩ (fun r_14 H locs hQ hF hS => ?_)
        have hP := va_P.ro hF hP
        obtain rfl : nI (unlike f b 24) = r_14 := hQ.symm
        exact z_iret (v := nI (unlike f b 24)) hx hb hr hS (by unfold aStandbyOf; rw [if_pos (zr_in (j := b) (N := 1) (by omega) (by decide)), if_pos (by decide), nI_clamp (show b < 2 ^ 31 by omega)]; first | rfl | (show _ = aStb f b 7; simp only [aStb]; split <;> first | rfl | contradiction)) (by omega) (by omega) dX4_standbyOf_153
    · have c_4 := bI_0.1 c_4
      refine lv_ldc (v := (-1000001)) hx hb hown (hts _ q1382) dX4_standbyOf_17 ?_
      exact z_iret (v := (-1000001)) hx hb hr hS (by unfold aStandbyOf; (repeat' split) <;> first | rfl | contradiction) (by omega) (by omega) dX4_standbyOf_19

set_option maxHeartbeats 4000000 in
set_option maxRecDepth 100000 in
theorem mX4_slotOf (l : Launch) (D : va_G) (dA : Nat → ClassId) (ad : Nat → Nat) (sz : Nat) (m0 : Nat) (sa : Nat) (pa : Nat) (ha : Nat) (xa : Nat) (ta : Nat) (v3 : Int32) (v4 : Int32) (v6 : Int32) (v7 : Int32) (v8 : Int32) (v9 : Int32) (v10 : Int32) (v11 : Int32) (v12 : Int32) (f : Nat → Int32) (sl : Int32) (w0 : Int32) (hI : InvA f) : Met l yX4_slotOf (ws_ yX4_slotOf cX4_slotOf 6 (some .int)) ({ frames := 2, cells := 0, slots := 0, locals := 60 }) (va_Pc [.ref m0, .int sl, .int w0] (zP D dA ad (fun q => sz ≤ q) sz (fun H => va_P D vwCl [(m0, .inr (4, [.ref sa, .ref pa, .ref ha, .int v3, .int v4, .ref xa, .int v6, .int v7, .int v8, .int v9, .int v10, .int v11, .int v12, .ref ta])), (sa, .inl (dA 0, 718, .inl f))] H))) (zQi (fun rz H => rz = aSlotOf f sl w0) (fun q => sz ≤ q)) (0) (0) (fun q => sz ≤ q) := by
  refine Met.ofW (cc := cX4_slotOf) (maxL := 6) (ret := (some .int)) (by decide) rfl ?_
  intro p e s m args below meth c s₁ B hml hv
  obtain ⟨rfl, hsz, hC, hP⟩ := hv
  have hx := B.exec
  have hb := B.bytes
  have hr := B.returns
  have hts := atoms_spec (ws := ws_ yX4_slotOf cX4_slotOf 6 (some .int)) B.pre
  have hts : ∀ w ∈ lw_all, w.before _ s = true := fun w h => hts w (List.mem_cons_of_mem _ h)
  have hown : s.vm.findClass RX4 = some m.cls := findClass_of_methodNamed B.named
  have hlocks := B.notSynchronized
  subst hsz
  have hK := hC.K
  have hA : ∀ q : Nat, s.heap.size ≤ q → s.heap.size ≤ q := fun _ h => h
  have hS : va_S (fun q => s.heap.size ≤ q) s.heap s.heap [] := va_S.rf
  have hP : va_P D vwCl [(m0, .inr (4, [.ref sa, .ref pa, .ref ha, .int v3, .int v4, .ref xa, .int v6, .int v7, .int v8, .int v9, .int v10, .int v11, .int v12, .ref ta])), (sa, .inl (dA 0, 718, .inl f))] s.heap := hP
  have hI0 := hI
  obtain ⟨hf0, hn, hsb, hrt, hrt2⟩ := hI
  have hl := lv_entry ([.ref m0, .int sl, .int w0]) (n := 6) (Nat.le_of_ble_eq_true rfl)
  rw [lg_entry_eq]
  generalize (lg_sl ([.ref m0, .int sl, .int w0]) ++ List.replicate (6 - (lg_sl ([.ref m0, .int sl, .int w0])).length) Slot.unset).toArray = ls at hl ⊢
  have hl : lv_has ls 6 [(0, .ref m0), (1, .int sl), (2, .int w0)] := hl
  refine lv_iload_n hx hb dX4_slotOf_0 rfl (lv_at hl 1 rfl) ?_
  refine z_cSi (As := [.int sl]) (rest := []) ⟨hx, hb, hml, hown, hts⟩ (mX4_isSlot l D dA ad s.heap.size sl) (va_cwS 1 hts (lw_S q1376 q1377 q67 q1378) rfl rfl rfl (by decide +kernel) ⟨Nat.le_of_ble_eq_true rfl, Nat.le_of_ble_eq_true rfl⟩) hC hS (fun _ h => hA _ (Nat.le_trans hS.1 h)) trivial rfl rfl hl.1 (Nat.le_of_ble_eq_true rfl) dX4_slotOf_1 ⟨Nat.le_of_ble_eq_true rfl, Nat.le_of_ble_eq_true rfl⟩ (fun r_1 H locs hQ hF hS => ?_)
  have hP := va_P.ro hF hP
  obtain rfl : bI (nI (0) ≤ sl ∧ sl ≤ nI (2)) = r_1 := hQ.symm
  refine lv_if_eq (tgt := 16) hx hb dX4_slotOf_4 (by decide) (fun c_2 => ?_) (fun c_2 => ?_)
  · have c_2 := bI_0.1 c_2
    refine lv_ldc (v := (-1000001)) hx hb hown (hts _ q1382) dX4_slotOf_16 ?_
    exact z_iret (v := (-1000001)) hx hb hr hS (by unfold aSlotOf; (try rw [show rN f = i by omega]); (repeat' split) <;> first | rfl | contradiction | (exfalso; omega) | exact absurd ((nI_eq (b := 0) (by omega) (by omega)).2 (by assumption)) (by assumption) | exact absurd ((nI_eq (b := 0) (by omega) (by omega)).1 (by assumption)) (by assumption) | (exfalso; simp_all; done)) (by omega) (by omega) dX4_slotOf_18
  · have c_2 := bI_1.1 c_2
    obtain ⟨j, hj, rfl⟩ := zr_of (N := 2) c_2 (by decide)
    refine lv_iload_n hx hb dX4_slotOf_7 rfl (lv_at hl 2 rfl) ?_
    refine lv_iconst (v := nI (0)) hx hb dX4_slotOf_8 (by decide) ?_
    refine lv_iconst (v := nI (1)) hx hb dX4_slotOf_9 (by decide) ?_
    refine z_cSi (As := [.int w0, .int (nI (0)), .int (nI (1))]) (rest := []) ⟨hx, hb, hml, hown, hts⟩ (mX4_in l D dA ad H.size w0 (nI (0)) (nI (1))) (va_cwS 3 hts (lw_S q1379 q1380 q67 q1381) rfl rfl rfl (by decide +kernel) ⟨Nat.le_of_ble_eq_true rfl, Nat.le_of_ble_eq_true rfl⟩) hC hS (fun _ h => hA _ (Nat.le_trans hS.1 h)) trivial rfl rfl hl.1 (Nat.le_of_ble_eq_true rfl) dX4_slotOf_10 ⟨Nat.le_of_ble_eq_true rfl, Nat.le_of_ble_eq_true rfl⟩ (fun r_3 H locs hQ hF hS => ?_)
    have hP := va_P.ro hF hP
    obtain rfl : bI ((nI (0)) ≤ w0 ∧ w0 ≤ (nI (1))) = r_3 := hQ.symm
    refine lv_if_ne (tgt := 19) hx hb dX4_slotOf_13 (by decide) (fun c_4 => ?_) (fun c_4 => ?_)
    · have c_4 := bI_1.1 c_4
      obtain ⟨w, hw, rfl⟩ := zr_of (N := 1) c_4 (by decide)
      refine lv_aload_n hx hb dX4_slotOf_19 rfl (lv_at hl 0 rfl) ?_
      refine va_get (D := D) (ci := 4) (v := .ref sa) (C := RX4) (T := TX4) (N := 14) hx hb hts in_X4 hown hK hP 0 rfl rfl 0 (by decide) (hts _ q1329) (fun _ h9 => h9) rfl dX4_slotOf_20 ?_
      refine lv_bipush (v := nI (9)) hx hb dX4_slotOf_23 (by decide) ?_
      refine lv_iload_n hx hb dX4_slotOf_25 rfl (lv_at hl 1 rfl) ?_
      refine lv_iadd hx hb dX4_slotOf_26 ?_
      refine lv_tope (y := nI (9 + j)) (nI_add _ _) ?_
      refine va_iald hx hb hK hP 1 0 rfl rfl (vp_in_nI (by omega) (by omega)) dX4_slotOf_27 ?_
      refine lv_tope (y := f (9 + j)) (by rw [nI_clamp (by omega)]) ?_
      refine lv_istore_n (lv' := [(3, .int (f (9 + j))), (0, .ref m0), (1, .int (nI (j))), (2, .int (nI (w)))]) hx hb dX4_slotOf_28 rfl hl (by decide) rfl (fun ls hl => ?_)
      refine lv_iconst (v := nI (0)) hx hb dX4_slotOf_29 (by decide) ?_
      refine lv_istore (lv' := [(4, .int (nI (0))), (3, .int (f (9 + j))), (0, .ref m0), (1, .int (nI (j))), (2, .int (nI (w)))]) hx hb dX4_slotOf_30 hl (by decide) rfl (fun ls hl => ?_)
      refine lv_iconst (v := nI (1)) hx hb dX4_slotOf_32 (by decide) ?_
      refine lv_istore (lv' := [(5, .int (nI (1))), (4, .int (nI (0))), (3, .int (f (9 + j))), (0, .ref m0), (1, .int (nI (j))), (2, .int (nI (w)))]) hx hb dX4_slotOf_33 hl (by decide) rfl (fun ls hl => ?_)
      refine z_loop (σ := Nat) (fun i => rN f - i) (fun i H locs ls => va_P D vwCl [(m0, .inr (4, [.ref sa, .ref pa, .ref ha, .int v3, .int v4, .ref xa, .int v6, .int v7, .int v8, .int v9, .int v10, .int v11, .int v12, .ref ta])), (sa, .inl (dA 0, 718, .inl f))] H ∧ va_S (fun q => s.heap.size ≤ q) s.heap H locs ∧ lv_has ls 6 [(0, .ref m0), (1, .int (nI (j))), (2, .int (nI (w))), (3, .int (f (9 + j))), (4, .int (nI (putsOf f (f (9 + j)) i))), (5, .int (nI (i + 1)))] ∧ i ≤ rN f) (0) ⟨hP, hS, (lv_sub (l' := [(0, .ref m0), (1, .int (nI (j))), (2, .int (nI (w))), (3, .int (f (9 + j))), (4, .int (nI (putsOf f (f (9 + j)) 0))), (5, .int (nI (0 + 1)))]) hl [3, 4, 5, 2, 1, 0] rfl), by omega⟩ ?_
      intro i H locs ls ⟨hP, hS, hl, hi⟩ ih_35
      refine lv_iload hx hb dX4_slotOf_35 (lv_at hl 5 rfl) ?_
      refine lv_aload_n hx hb dX4_slotOf_37 rfl (lv_at hl 0 rfl) ?_
      refine va_get (D := D) (ci := 4) (v := .ref sa) (C := RX4) (T := TX4) (N := 14) hx hb hts in_X4 hown hK hP 0 rfl rfl 0 (by decide) (hts _ q1329) (fun _ h9 => h9) rfl dX4_slotOf_38 ?_
      refine lv_iconst (v := nI (0)) hx hb dX4_slotOf_41 (by decide) ?_
      refine va_iald hx hb hK hP 1 0 rfl rfl (vp_in_nI (by omega) (by omega)) dX4_slotOf_42 ?_
      refine lv_tope (y := f 0) (by rw [nI_clamp (by omega)]) ?_
      refine lv_tope (y := nI (rN f)) (hf0) ?_
      refine lv_icmp_gt (tgt := 83) hx hb dX4_slotOf_43 (by decide) (fun c_5 => ?_) (fun c_5 => ?_)
      · have c_5 := (nI_ltI (by omega) (by omega)).1 c_5
        refine lv_iload_n hx hb dX4_slotOf_83 rfl (lv_at hl 3 rfl) ?_
        refine lv_if_ne (tgt := 92) hx hb dX4_slotOf_84 (by decide) (fun c_6 => ?_) (fun c_6 => ?_)
        · refine lv_iload_n hx hb dX4_slotOf_92 rfl (lv_at hl 2 rfl) ?_
          refine lv_if_ne (tgt := 100) hx hb dX4_slotOf_93 (by decide) (fun c_7 => ?_) (fun c_7 => ?_)
          · have c_7 := mt (nI_eq (by omega) (by omega)).2 (show ¬ nI _ = nI 0 from c_7)
            refine lv_iload hx hb dX4_slotOf_100 (lv_at hl 4 rfl) ?_
            exact z_iret (v := nI (putsOf f (f (9 + j)) i)) hx hb hr hS (by unfold aSlotOf; simp only [nI_clamp (show j < 2 ^ 31 by omega), nI_clamp (show w < 2 ^ 31 by omega)]; (try rw [show rN f = i by omega]); (repeat' split) <;> first | rfl | contradiction | (exfalso; omega) | exact absurd ((nI_eq (b := 0) (by omega) (by omega)).2 (by assumption)) (by assumption) | exact absurd ((nI_eq (b := 0) (by omega) (by omega)).1 (by assumption)) (by assumption) | (exfalso; simp_all; done)) (by omega) (by omega) dX4_slotOf_102
          · have c_7 := (nI_eq (by omega) (by omega)).1 (show nI _ = nI 0 from c_7)
            refine lv_iload_n hx hb dX4_slotOf_96 rfl (lv_at hl 3 rfl) ?_
            refine lv_goto (tgt := 102) hx hb dX4_slotOf_97 (by decide) ?_
            exact z_iret (v := f (9 + j)) hx hb hr hS (by unfold aSlotOf; simp only [nI_clamp (show j < 2 ^ 31 by omega), nI_clamp (show w < 2 ^ 31 by omega)]; (try rw [show rN f = i by omega]); (repeat' split) <;> first | rfl | contradiction | (exfalso; omega) | exact absurd ((nI_eq (b := 0) (by omega) (by omega)).2 (by assumption)) (by assumption) | exact absurd ((nI_eq (b := 0) (by omega) (by omega)).1 (by assumption)) (by assumption) | (exfalso; simp_all; done)) (by omega) (by omega) dX4_slotOf_102
        · refine lv_ldc (v := (-1000004)) hx hb hown (hts _ q1408) dX4_slotOf_87 ?_
          refine lv_goto (tgt := 102) hx hb dX4_slotOf_89 (by decide) ?_
          exact z_iret (v := (-1000004)) hx hb hr hS (by unfold aSlotOf; simp only [nI_clamp (show j < 2 ^ 31 by omega), nI_clamp (show w < 2 ^ 31 by omega)]; (try rw [show rN f = i by omega]); (repeat' split) <;> first | rfl | contradiction | (exfalso; omega) | exact absurd ((nI_eq (b := 0) (by omega) (by omega)).2 (by assumption)) (by assumption) | exact absurd ((nI_eq (b := 0) (by omega) (by omega)).1 (by assumption)) (by assumption) | (exfalso; simp_all; done)) (by omega) (by omega) dX4_slotOf_102
      · have c_5 := mt (nI_ltI (by omega) (by omega)).2 c_5
        refine lv_iload hx hb dX4_slotOf_46 (lv_at hl 4 rfl) ?_
        refine lv_aload_n hx hb dX4_slotOf_48 rfl (lv_at hl 0 rfl) ?_
        refine lv_iload hx hb dX4_slotOf_49 (lv_at hl 5 rfl) ?_
        refine lv_iconst (v := nI (0)) hx hb dX4_slotOf_51 (by decide) ?_
        refine z_cVi (As := [.int (nI (i + 1)), .int (nI (0))]) (rest := [.int (nI (putsOf f (f (9 + j)) i))]) ⟨hx, hb, hml, hown, hts⟩ (mX4_ofRecord l D dA ad H.size m0 sa pa ha xa ta v3 v4 v6 v7 v8 v9 v10 v11 v12 f (i + 1) 0 (by omega) (by omega) (by omega)) (cwV 2 hts (lw_V q1452 q1454 qs35 q67 q1455) rfl rfl rfl (by decide +kernel) ⟨Nat.le_of_ble_eq_true rfl, Nat.le_of_ble_eq_true rfl⟩) hC hS (fun _ h => hA _ (Nat.le_trans hS.1 h)) (hP.sub (ws' := [(m0, .inr (4, [.ref sa, .ref pa, .ref ha, .int v3, .int v4, .ref xa, .int v6, .int v7, .int v8, .int v9, .int v10, .int v11, .int v12, .ref ta])), (sa, .inl (dA 0, 718, .inl f))]) [0, 1] rfl) (va_recv hK hP (ci := 4) (q0 := 0) rfl rfl) rfl rfl hl.1 (Nat.le_of_ble_eq_true rfl) dX4_slotOf_52 ⟨Nat.le_of_ble_eq_true rfl, Nat.le_of_ble_eq_true rfl⟩ (fun r_8 H locs hQ hF hS => ?_)
        have hP := va_P.ro hF hP
        obtain rfl : rcf f (i + 1) 0 = r_8 := hQ.symm
        refine lv_if_ne (tgt := 73) hx hb dX4_slotOf_55 (by decide) (fun c_9 => ?_) (fun c_9 => ?_)
        · refine lv_iconst (v := nI (0)) hx hb dX4_slotOf_73 (by decide) ?_
          refine lv_iadd hx hb dX4_slotOf_74 ?_
          refine lv_tope (y := nI ((putsOf f (f (9 + j)) i) + 0)) (nI_add _ _) ?_
          refine lv_tope (y := nI (putsOf f (f (9 + j)) (i + 1))) (by simp only [putsOf]; split <;> first | rfl | (exfalso; simp_all; done)) ?_
          refine lv_istore (lv' := [(4, .int (nI (putsOf f (f (9 + j)) (i + 1)))), (0, .ref m0), (1, .int (nI (j))), (2, .int (nI (w))), (3, .int (f (9 + j))), (5, .int (nI (i + 1)))]) hx hb dX4_slotOf_75 hl (by decide) rfl (fun ls hl => ?_)
          refine lv_iinc (v := nI (i + 1 + 1)) (lv' := [(5, .int (nI (i + 1 + 1))), (4, .int (nI (putsOf f (f (9 + j)) (i + 1)))), (0, .ref m0), (1, .int (nI (j))), (2, .int (nI (w))), (3, .int (f (9 + j)))]) hx hb dX4_slotOf_77 hl (k := 5) rfl (nI_add _ _) (by decide) rfl (fun ls hl => ?_)
          refine lv_goto (tgt := 35) hx hb dX4_slotOf_80 (by decide) ?_
          exact ih_35 (i + 1) H locs ls ⟨hP, hS, (lv_sub (l' := [(0, .ref m0), (1, .int (nI (j))), (2, .int (nI (w))), (3, .int (f (9 + j))), (4, .int (nI (putsOf f (f (9 + j)) (i + 1)))), (5, .int (nI ((i + 1) + 1)))]) hl [2, 3, 4, 5, 1, 0] rfl), by omega⟩ (by omega)
        · refine lv_aload_n hx hb dX4_slotOf_58 rfl (lv_at hl 0 rfl) ?_
          refine lv_iload hx hb dX4_slotOf_59 (lv_at hl 5 rfl) ?_
          refine lv_iconst (v := nI (1)) hx hb dX4_slotOf_61 (by decide) ?_
          refine z_cVi (As := [.int (nI (i + 1)), .int (nI (1))]) (rest := [.int (nI (putsOf f (f (9 + j)) i))]) ⟨hx, hb, hml, hown, hts⟩ (mX4_ofRecord l D dA ad H.size m0 sa pa ha xa ta v3 v4 v6 v7 v8 v9 v10 v11 v12 f (i + 1) 1 (by omega) (by omega) (by omega)) (cwV 2 hts (lw_V q1452 q1454 qs35 q67 q1455) rfl rfl rfl (by decide +kernel) ⟨Nat.le_of_ble_eq_true rfl, Nat.le_of_ble_eq_true rfl⟩) hC hS (fun _ h => hA _ (Nat.le_trans hS.1 h)) (hP.sub (ws' := [(m0, .inr (4, [.ref sa, .ref pa, .ref ha, .int v3, .int v4, .ref xa, .int v6, .int v7, .int v8, .int v9, .int v10, .int v11, .int v12, .ref ta])), (sa, .inl (dA 0, 718, .inl f))]) [0, 1] rfl) (va_recv hK hP (ci := 4) (q0 := 0) rfl rfl) rfl rfl hl.1 (Nat.le_of_ble_eq_true rfl) dX4_slotOf_62 ⟨Nat.le_of_ble_eq_true rfl, Nat.le_of_ble_eq_true rfl⟩ (fun r_10 H locs hQ hF hS => ?_)
          have hP := va_P.ro hF hP
          obtain rfl : rcf f (i + 1) 1 = r_10 := hQ.symm
          refine lv_iload_n hx hb dX4_slotOf_65 rfl (lv_at hl 3 rfl) ?_
          refine lv_icmp_ne (tgt := 73) hx hb dX4_slotOf_66 (by decide) (fun c_11 => ?_) (fun c_11 => ?_)
          · refine lv_iconst (v := nI (0)) hx hb dX4_slotOf_73 (by decide) ?_
            refine lv_iadd hx hb dX4_slotOf_74 ?_
            refine lv_tope (y := nI ((putsOf f (f (9 + j)) i) + 0)) (nI_add _ _) ?_
            refine lv_tope (y := nI (putsOf f (f (9 + j)) (i + 1))) (by simp only [putsOf]; split <;> first | rfl | (exfalso; simp_all; done)) ?_
            refine lv_istore (lv' := [(4, .int (nI (putsOf f (f (9 + j)) (i + 1)))), (0, .ref m0), (1, .int (nI (j))), (2, .int (nI (w))), (3, .int (f (9 + j))), (5, .int (nI (i + 1)))]) hx hb dX4_slotOf_75 hl (by decide) rfl (fun ls hl => ?_)
            refine lv_iinc (v := nI (i + 1 + 1)) (lv' := [(5, .int (nI (i + 1 + 1))), (4, .int (nI (putsOf f (f (9 + j)) (i + 1)))), (0, .ref m0), (1, .int (nI (j))), (2, .int (nI (w))), (3, .int (f (9 + j)))]) hx hb dX4_slotOf_77 hl (k := 5) rfl (nI_add _ _) (by decide) rfl (fun ls hl => ?_)
            refine lv_goto (tgt := 35) hx hb dX4_slotOf_80 (by decide) ?_
            exact ih_35 (i + 1) H locs ls ⟨hP, hS, (lv_sub (l' := [(0, .ref m0), (1, .int (nI (j))), (2, .int (nI (w))), (3, .int (f (9 + j))), (4, .int (nI (putsOf f (f (9 + j)) (i + 1)))), (5, .int (nI ((i + 1) + 1)))]) hl [2, 3, 4, 5, 1, 0] rfl), by omega⟩ (by omega)
          · refine lv_iconst (v := nI (1)) hx hb dX4_slotOf_69 (by decide) ?_
            refine lv_goto (tgt := 74) hx hb dX4_slotOf_70 (by decide) ?_
            refine lv_iadd hx hb dX4_slotOf_74 ?_
            refine lv_tope (y := nI ((putsOf f (f (9 + j)) i) + 1)) (nI_add _ _) ?_
            refine lv_tope (y := nI (putsOf f (f (9 + j)) (i + 1))) (by simp only [putsOf]; split <;> first | rfl | (exfalso; simp_all; done)) ?_
            refine lv_istore (lv' := [(4, .int (nI (putsOf f (f (9 + j)) (i + 1)))), (0, .ref m0), (1, .int (nI (j))), (2, .int (nI (w))), (3, .int (f (9 + j))), (5, .int (nI (i + 1)))]) hx hb dX4_slotOf_75 hl (by decide) rfl (fun ls hl => ?_)
            refine lv_iinc (v := nI (i + 1 + 1)) (lv' := [(5, .int (nI (i + 1 + 1))), (4, .int (nI (putsOf f (f (9 + j)) (i + 1)))), (0, .ref m0), (1, .int (nI (j))), (2, .int (nI (w))), (3, .int (f (9 + j)))]) hx hb dX4_slotOf_77 hl (k := 5) rfl (nI_add _ _) (by decide) rfl (fun ls hl => ?_)
            refine lv_goto (tgt := 35) hx hb dX4_slotOf_80 (by decide) ?_
            exact ih_35 (i + 1) H locs ls ⟨hP, hS, (lv_sub (l' := [(0, .ref m0), (1, .int (nI (j))), (2, .int (nI (w))), (3, .int (f (9 + j))), (4, .int (nI (putsOf f (f (9 + j)) (i + 1)))), (5, .int (nI ((i + 1) + 1)))]) hl [2, 3, 4, 5, 1, 0] rfl), by omega⟩ (by omega)
    · have c_4 := bI_0.1 c_4
      refine lv_ldc (v := (-1000001)) hx hb hown (hts _ q1382) dX4_slotOf_16 ?_
      exact z_iret (v := (-1000001)) hx hb hr hS (by unfold aSlotOf; simp only [nI_clamp (show j < 2 ^ 31 by omega)]; (try rw [show rN f = i by omega]); (repeat' split) <;> first | rfl | contradiction | (exfalso; omega) | exact absurd ((nI_eq (b := 0) (by omega) (by omega)).2 (by assumption)) (by assumption) | exact absurd ((nI_eq (b := 0) (by omega) (by omega)).1 (by assumption)) (by assumption) | (exfalso; simp_all; done)) (by omega) (by omega) dX4_slotOf_18

set_option maxHeartbeats 4000000 in
set_option maxRecDepth 100000 in
theorem mX4_waits (l : Launch) (D : va_G) (dA : Nat → ClassId) (ad : Nat → Nat) (sz : Nat) (m0 : Nat) (sa : Nat) (pa : Nat) (ha : Nat) (xa : Nat) (ta : Nat) (v3 : Int32) (v4 : Int32) (v6 : Int32) (v7 : Int32) (v8 : Int32) (v9 : Int32) (v10 : Int32) (v11 : Int32) (v12 : Int32) (f : Nat → Int32) (sb : Int32) (fe : Int32) (hI : InvA f) : Met l yX4_waits (ws_ yX4_waits cX4_waits 3 (some .int)) ({ frames := 4, cells := 0, slots := 0, locals := 120 }) (va_Pc [.ref m0, .int sb, .int fe] (zP D dA ad (fun q => sz ≤ q) sz (fun H => va_P D vwCl [(m0, .inr (4, [.ref sa, .ref pa, .ref ha, .int v3, .int v4, .ref xa, .int v6, .int v7, .int v8, .int v9, .int v10, .int v11, .int v12, .ref ta])), (sa, .inl (dA 0, 718, .inl f))] H))) (zQi (fun rz H => rz = aWaits f sb fe) (fun q => sz ≤ q)) (0) (0) (fun q => sz ≤ q) := by
  refine Met.ofW (cc := cX4_waits) (maxL := 3) (ret := (some .int)) (by decide) rfl ?_
  intro p e s m args below meth c s₁ B hml hv
  obtain ⟨rfl, hsz, hC, hP⟩ := hv
  have hx := B.exec
  have hb := B.bytes
  have hr := B.returns
  have hts := atoms_spec (ws := ws_ yX4_waits cX4_waits 3 (some .int)) B.pre
  have hts : ∀ w ∈ lw_all, w.before _ s = true := fun w h => hts w (List.mem_cons_of_mem _ h)
  have hown : s.vm.findClass RX4 = some m.cls := findClass_of_methodNamed B.named
  have hlocks := B.notSynchronized
  subst hsz
  have hK := hC.K
  have hA : ∀ q : Nat, s.heap.size ≤ q → s.heap.size ≤ q := fun _ h => h
  have hS : va_S (fun q => s.heap.size ≤ q) s.heap s.heap [] := va_S.rf
  have hP : va_P D vwCl [(m0, .inr (4, [.ref sa, .ref pa, .ref ha, .int v3, .int v4, .ref xa, .int v6, .int v7, .int v8, .int v9, .int v10, .int v11, .int v12, .ref ta])), (sa, .inl (dA 0, 718, .inl f))] s.heap := hP
  have hI0 := hI
  obtain ⟨hf0, hn, hsb, hrt, hrt2⟩ := hI
  have hl := lv_entry ([.ref m0, .int sb, .int fe]) (n := 3) (Nat.le_of_ble_eq_true rfl)
  rw [lg_entry_eq]
  generalize (lg_sl ([.ref m0, .int sb, .int fe]) ++ List.replicate (3 - (lg_sl ([.ref m0, .int sb, .int fe])).length) Slot.unset).toArray = ls at hl ⊢
  have hl : lv_has ls 3 [(0, .ref m0), (1, .int sb), (2, .int fe)] := hl
  refine lv_iload_n hx hb dX4_waits_0 rfl (lv_at hl 1 rfl) ?_
  refine z_cSi (As := [.int sb]) (rest := []) ⟨hx, hb, hml, hown, hts⟩ (mX4_isStandby l D dA ad s.heap.size sb) (va_cwS 1 hts (lw_S q1417 q1418 q67 q1419) rfl rfl rfl (by decide +kernel) ⟨Nat.le_of_ble_eq_true rfl, Nat.le_of_ble_eq_true rfl⟩) hC hS (fun _ h => hA _ (Nat.le_trans hS.1 h)) trivial rfl rfl hl.1 (Nat.le_of_ble_eq_true rfl) dX4_waits_1 ⟨Nat.le_of_ble_eq_true rfl, Nat.le_of_ble_eq_true rfl⟩ (fun r_1 H locs hQ hF hS => ?_)
  have hP := va_P.ro hF hP
  obtain rfl : bI (nI (0) ≤ sb ∧ sb ≤ nI (1)) = r_1 := hQ.symm
  refine lv_if_eq (tgt := 15) hx hb dX4_waits_4 (by decide) (fun c_2 => ?_) (fun c_2 => ?_)
  · have c_2 := bI_0.1 c_2
    refine lv_ldc (v := (-1000001)) hx hb hown (hts _ q1382) dX4_waits_15 ?_
    exact z_iret (v := (-1000001)) hx hb hr hS (by unfold aWaits; (repeat' split) <;> first | rfl | contradiction | (exfalso; simp_all; done)) (by omega) (by omega) dX4_waits_17
  · have c_2 := bI_1.1 c_2
    obtain ⟨b, h1, rfl⟩ := zr_of (N := 1) c_2 (by decide)
    have h1 : b < 2 := (by omega)
    obtain ⟨hrc, hap, har, hrl⟩ := hsb b h1
    refine lv_aload_n hx hb dX4_waits_7 rfl (lv_at hl 0 rfl) ?_
    refine lv_iload_n hx hb dX4_waits_8 rfl (lv_at hl 2 rfl) ?_
    refine z_cVi (As := [.int fe]) (rest := []) ⟨hx, hb, hml, hown, hts⟩ (mX4_isFence l D dA ad H.size m0 sa pa ha xa ta v3 v4 v6 v7 v8 v9 v10 v11 v12 f fe) (cwV 1 hts (lw_V q1484 q1486 qs39 q67 q1487) rfl rfl rfl (by decide +kernel) ⟨Nat.le_of_ble_eq_true rfl, Nat.le_of_ble_eq_true rfl⟩) hC hS (fun _ h => hA _ (Nat.le_trans hS.1 h)) (hP.sub (ws' := [(m0, .inr (4, [.ref sa, .ref pa, .ref ha, .int v3, .int v4, .ref xa, .int v6, .int v7, .int v8, .int v9, .int v10, .int v11, .int v12, .ref ta])), (sa, .inl (dA 0, 718, .inl f))]) [0, 1] rfl) (va_recv hK hP (ci := 4) (q0 := 0) rfl rfl) rfl rfl hl.1 (Nat.le_of_ble_eq_true rfl) dX4_waits_9 ⟨Nat.le_of_ble_eq_true rfl, Nat.le_of_ble_eq_true rfl⟩ (fun r_3 H locs hQ hF hS => ?_)
    have hP := va_P.ro hF hP
    obtain rfl : bI (isFe f fe) = r_3 := hQ.symm
    refine lv_if_ne (tgt := 18) hx hb dX4_waits_12 (by decide) (fun c_4 => ?_) (fun c_4 => ?_)
    · have c_4 := bI_1.1 c_4
      have hfe9 : nI 0 ≤ fe ∧ fe ≤ f 0 := c_4
      rw [hf0] at hfe9
      obtain ⟨q, hq9, rfl⟩ := zr_of (k := fe) (N := rN f) hfe9 (by omega)
      refine lv_aload_n hx hb dX4_waits_18 rfl (lv_at hl 0 rfl) ?_
      refine lv_iload_n hx hb dX4_waits_19 rfl (lv_at hl 1 rfl) ?_
      refine lv_iconst (v := nI (2)) hx hb dX4_waits_20 (by decide) ?_
      refine z_cVi (As := [.int (nI (b)), .int (nI (2))]) (rest := []) ⟨hx, hb, hml, hown, hts⟩ (mX4_ofStandby l D dA ad H.size m0 sa pa ha xa ta v3 v4 v6 v7 v8 v9 v10 v11 v12 f b 2 (by omega) (by omega)) (cwV 2 hts (lw_V q1420 q1422 qs30 q67 q1423) rfl rfl rfl (by decide +kernel) ⟨Nat.le_of_ble_eq_true rfl, Nat.le_of_ble_eq_true rfl⟩) hC hS (fun _ h => hA _ (Nat.le_trans hS.1 h)) (hP.sub (ws' := [(m0, .inr (4, [.ref sa, .ref pa, .ref ha, .int v3, .int v4, .ref xa, .int v6, .int v7, .int v8, .int v9, .int v10, .int v11, .int v12, .ref ta])), (sa, .inl (dA 0, 718, .inl f))]) [0, 1] rfl) (va_recv hK hP (ci := 4) (q0 := 0) rfl rfl) rfl rfl hl.1 (Nat.le_of_ble_eq_true rfl) dX4_waits_21 ⟨Nat.le_of_ble_eq_true rfl, Nat.le_of_ble_eq_true rfl⟩ (fun r_5 H locs hQ hF hS => ?_)
      have hP := va_P.ro hF hP
      obtain rfl : sbf f b 2 = r_5 := hQ.symm
      refine lv_iconst (v := nI (1)) hx hb dX4_waits_24 (by decide) ?_
      refine lv_icmp_ne (tgt := 33) hx hb dX4_waits_25 (by decide) (fun c_6 => ?_) (fun c_6 => ?_)
      · refine lv_aload_n hx hb dX4_waits_33 rfl (lv_at hl 0 rfl) ?_
        refine lv_iload_n hx hb dX4_waits_34 rfl (lv_at hl 1 rfl) ?_
        refine lv_iload_n hx hb dX4_waits_35 rfl (lv_at hl 2 rfl) ?_
        refine lv_aload_n hx hb dX4_waits_36 rfl (lv_at hl 0 rfl) ?_
        refine va_get (D := D) (ci := 4) (v := .ref sa) (C := RX4) (T := TX4) (N := 14) hx hb hts in_X4 hown hK hP 0 rfl rfl 0 (by decide) (hts _ q1329) (fun _ h9 => h9) rfl dX4_waits_37 ?_
        refine lv_bipush (v := nI (7)) hx hb dX4_waits_40 (by decide) ?_
        refine va_iald hx hb hK hP 1 0 rfl rfl (vp_in_nI (by omega) (by omega)) dX4_waits_42 ?_
        refine lv_tope (y := f 7) (by rw [nI_clamp (by omega)]) ?_
        refine lv_tope (y := nI (rtN f)) (hrt) ?_
        refine lv_sipush (v := nI (200)) hx hb dX4_waits_43 (by decide) ?_
        refine z_cVi (As := [.int (nI (b)), .int (nI (q)), .int (nI (rtN f)), .int (nI (200))]) (rest := []) ⟨hx, hb, hml, hown, hts⟩ (mX4_until l D dA ad H.size m0 sa pa ha xa ta v3 v4 v6 v7 v8 v9 v10 v11 v12 f b q (rtN f) 200 (by omega) (hI0) (by omega) (by omega) (by omega)) (cwV 4 hts (lw_V q1540 q1542 qs46 q67 q1543) rfl rfl rfl (by decide +kernel) ⟨Nat.le_of_ble_eq_true rfl, Nat.le_of_ble_eq_true rfl⟩) hC hS (fun _ h => hA _ (Nat.le_trans hS.1 h)) (hP.sub (ws' := [(m0, .inr (4, [.ref sa, .ref pa, .ref ha, .int v3, .int v4, .ref xa, .int v6, .int v7, .int v8, .int v9, .int v10, .int v11, .int v12, .ref ta])), (sa, .inl (dA 0, 718, .inl f))]) [0, 1] rfl) (va_recv hK hP (ci := 4) (q0 := 0) rfl rfl) rfl rfl hl.1 (Nat.le_of_ble_eq_true rfl) dX4_waits_46 ⟨Nat.le_of_ble_eq_true rfl, Nat.le_of_ble_eq_true rfl⟩ (fun r_7 H locs hQ hF hS => ?_)
        have hP := va_P.ro hF hP
        obtain rfl : untilN f b q (rtN f) (200 + 1) (apN f b) 0 = r_7 := hQ.symm
        exact z_iret (v := untilN f b q (rtN f) (200 + 1) (apN f b) 0) hx hb hr hS (by unfold aWaits; simp only [nI_clamp (show b < 2 ^ 31 by omega), nI_clamp (show q < 2 ^ 31 by omega)]; (repeat' split) <;> first | rfl | contradiction | (exfalso; simp_all; done)) (by omega) (by omega) dX4_waits_49
      · refine lv_ldc (v := (-1000002)) hx hb hown (hts _ q1383) dX4_waits_28 ?_
        refine lv_goto (tgt := 49) hx hb dX4_waits_30 (by decide) ?_
        exact z_iret (v := (-1000002)) hx hb hr hS (by unfold aWaits; simp only [nI_clamp (show b < 2 ^ 31 by omega), nI_clamp (show q < 2 ^ 31 by omega)]; (repeat' split) <;> first | rfl | contradiction | (exfalso; simp_all; done)) (by omega) (by omega) dX4_waits_49
    · have c_4 := bI_0.1 c_4
      refine lv_ldc (v := (-1000001)) hx hb hown (hts _ q1382) dX4_waits_15 ?_
      exact z_iret (v := (-1000001)) hx hb hr hS (by unfold aWaits; simp only [nI_clamp (show b < 2 ^ 31 by omega)]; (repeat' split) <;> first | rfl | contradiction | (exfalso; simp_all; done)) (by omega) (by omega) dX4_waits_17

set_option maxHeartbeats 4000000 in
set_option maxRecDepth 100000 in
theorem mX4_wouldLose (l : Launch) (D : va_G) (dA : Nat → ClassId) (ad : Nat → Nat) (sz : Nat) (m0 : Nat) (sa : Nat) (pa : Nat) (ha : Nat) (xa : Nat) (ta : Nat) (v3 : Int32) (v4 : Int32) (v6 : Int32) (v7 : Int32) (v8 : Int32) (v9 : Int32) (v10 : Int32) (v11 : Int32) (v12 : Int32) (f : Nat → Int32) (sb : Int32) (hI : InvA f) : Met l yX4_wouldLose (ws_ yX4_wouldLose cX4_wouldLose 2 (some .int)) ({ frames := 4, cells := 0, slots := 0, locals := 120 }) (va_Pc [.ref m0, .int sb] (zP D dA ad (fun q => sz ≤ q) sz (fun H => va_P D vwCl [(m0, .inr (4, [.ref sa, .ref pa, .ref ha, .int v3, .int v4, .ref xa, .int v6, .int v7, .int v8, .int v9, .int v10, .int v11, .int v12, .ref ta])), (sa, .inl (dA 0, 718, .inl f))] H))) (zQi (fun rz H => rz = aWouldLose f sb) (fun q => sz ≤ q)) (0) (0) (fun q => sz ≤ q) := by
  refine Met.ofW (cc := cX4_wouldLose) (maxL := 2) (ret := (some .int)) (by decide) rfl ?_
  intro p e s m args below meth c s₁ B hml hv
  obtain ⟨rfl, hsz, hC, hP⟩ := hv
  have hx := B.exec
  have hb := B.bytes
  have hr := B.returns
  have hts := atoms_spec (ws := ws_ yX4_wouldLose cX4_wouldLose 2 (some .int)) B.pre
  have hts : ∀ w ∈ lw_all, w.before _ s = true := fun w h => hts w (List.mem_cons_of_mem _ h)
  have hown : s.vm.findClass RX4 = some m.cls := findClass_of_methodNamed B.named
  have hlocks := B.notSynchronized
  subst hsz
  have hK := hC.K
  have hA : ∀ q : Nat, s.heap.size ≤ q → s.heap.size ≤ q := fun _ h => h
  have hS : va_S (fun q => s.heap.size ≤ q) s.heap s.heap [] := va_S.rf
  have hP : va_P D vwCl [(m0, .inr (4, [.ref sa, .ref pa, .ref ha, .int v3, .int v4, .ref xa, .int v6, .int v7, .int v8, .int v9, .int v10, .int v11, .int v12, .ref ta])), (sa, .inl (dA 0, 718, .inl f))] s.heap := hP
  have hI0 := hI
  obtain ⟨hf0, hn, hsb, hrt, hrt2⟩ := hI
  have hl := lv_entry ([.ref m0, .int sb]) (n := 2) (Nat.le_of_ble_eq_true rfl)
  rw [lg_entry_eq]
  generalize (lg_sl ([.ref m0, .int sb]) ++ List.replicate (2 - (lg_sl ([.ref m0, .int sb])).length) Slot.unset).toArray = ls at hl ⊢
  have hl : lv_has ls 2 [(0, .ref m0), (1, .int sb)] := hl
  refine lv_iload_n hx hb dX4_wouldLose_0 rfl (lv_at hl 1 rfl) ?_
  refine z_cSi (As := [.int sb]) (rest := []) ⟨hx, hb, hml, hown, hts⟩ (mX4_isStandby l D dA ad s.heap.size sb) (va_cwS 1 hts (lw_S q1417 q1418 q67 q1419) rfl rfl rfl (by decide +kernel) ⟨Nat.le_of_ble_eq_true rfl, Nat.le_of_ble_eq_true rfl⟩) hC hS (fun _ h => hA _ (Nat.le_trans hS.1 h)) trivial rfl rfl hl.1 (Nat.le_of_ble_eq_true rfl) dX4_wouldLose_1 ⟨Nat.le_of_ble_eq_true rfl, Nat.le_of_ble_eq_true rfl⟩ (fun r_1 H locs hQ hF hS => ?_)
  have hP := va_P.ro hF hP
  obtain rfl : bI (nI (0) ≤ sb ∧ sb ≤ nI (1)) = r_1 := hQ.symm
  refine lv_if_ne (tgt := 10) hx hb dX4_wouldLose_4 (by decide) (fun c_2 => ?_) (fun c_2 => ?_)
  · have c_2 := bI_1.1 c_2
    obtain ⟨b, h1, rfl⟩ := zr_of (N := 1) c_2 (by decide)
    have h1 : b < 2 := (by omega)
    obtain ⟨hrc, hap, har, hrl⟩ := hsb b h1
    refine lv_aload_n hx hb dX4_wouldLose_10 rfl (lv_at hl 0 rfl) ?_
    refine lv_iload_n hx hb dX4_wouldLose_11 rfl (lv_at hl 1 rfl) ?_
    refine lv_iconst (v := nI (2)) hx hb dX4_wouldLose_12 (by decide) ?_
    refine z_cVi (As := [.int (nI (b)), .int (nI (2))]) (rest := []) ⟨hx, hb, hml, hown, hts⟩ (mX4_ofStandby l D dA ad H.size m0 sa pa ha xa ta v3 v4 v6 v7 v8 v9 v10 v11 v12 f b 2 (by omega) (by omega)) (cwV 2 hts (lw_V q1420 q1422 qs30 q67 q1423) rfl rfl rfl (by decide +kernel) ⟨Nat.le_of_ble_eq_true rfl, Nat.le_of_ble_eq_true rfl⟩) hC hS (fun _ h => hA _ (Nat.le_trans hS.1 h)) (hP.sub (ws' := [(m0, .inr (4, [.ref sa, .ref pa, .ref ha, .int v3, .int v4, .ref xa, .int v6, .int v7, .int v8, .int v9, .int v10, .int v11, .int v12, .ref ta])), (sa, .inl (dA 0, 718, .inl f))]) [0, 1] rfl) (va_recv hK hP (ci := 4) (q0 := 0) rfl rfl) rfl rfl hl.1 (Nat.le_of_ble_eq_true rfl) dX4_wouldLose_13 ⟨Nat.le_of_ble_eq_true rfl, Nat.le_of_ble_eq_true rfl⟩ (fun r_3 H locs hQ hF hS => ?_)
    have hP := va_P.ro hF hP
    obtain rfl : sbf f b 2 = r_3 := hQ.symm
    refine lv_iconst (v := nI (1)) hx hb dX4_wouldLose_16 (by decide) ?_
    refine lv_icmp_ne (tgt := 25) hx hb dX4_wouldLose_17 (by decide) (fun c_4 => ?_) (fun c_4 => ?_)
    · refine lv_aload_n hx hb dX4_wouldLose_25 rfl (lv_at hl 0 rfl) ?_
      refine lv_iload_n hx hb dX4_wouldLose_26 rfl (lv_at hl 1 rfl) ?_
      refine z_cVi (As := [.int (nI (b))]) (rest := []) ⟨hx, hb, hml, hown, hts⟩ (mX4_wouldBeLost l D dA ad H.size m0 sa pa ha xa ta v3 v4 v6 v7 v8 v9 v10 v11 v12 f b (by omega) (hI0)) (cwV 1 hts (lw_V q1460 q1462 qs36 q67 q1463) rfl rfl rfl (by decide +kernel) ⟨Nat.le_of_ble_eq_true rfl, Nat.le_of_ble_eq_true rfl⟩) hC hS (fun _ h => hA _ (Nat.le_trans hS.1 h)) (hP.sub (ws' := [(m0, .inr (4, [.ref sa, .ref pa, .ref ha, .int v3, .int v4, .ref xa, .int v6, .int v7, .int v8, .int v9, .int v10, .int v11, .int v12, .ref ta])), (sa, .inl (dA 0, 718, .inl f))]) [0, 1] rfl) (va_recv hK hP (ci := 4) (q0 := 0) rfl rfl) rfl rfl hl.1 (Nat.le_of_ble_eq_true rfl) dX4_wouldLose_27 ⟨Nat.le_of_ble_eq_true rfl, Nat.le_of_ble_eq_true rfl⟩ (fun r_5 H locs hQ hF hS => ?_)
      have hP := va_P.ro hF hP
      obtain rfl : nI (lost f b) = r_5 := hQ.symm
      exact z_iret (v := nI (lost f b)) hx hb hr hS (by unfold aWouldLose; simp only [nI_clamp (show b < 2 ^ 31 by omega)]; (repeat' split) <;> first | rfl | contradiction | (exfalso; simp_all; done)) (by omega) (by omega) dX4_wouldLose_30
    · refine lv_ldc (v := (-1000002)) hx hb hown (hts _ q1383) dX4_wouldLose_20 ?_
      refine lv_goto (tgt := 30) hx hb dX4_wouldLose_22 (by decide) ?_
      exact z_iret (v := (-1000002)) hx hb hr hS (by unfold aWouldLose; simp only [nI_clamp (show b < 2 ^ 31 by omega)]; (repeat' split) <;> first | rfl | contradiction | (exfalso; simp_all; done)) (by omega) (by omega) dX4_wouldLose_30
  · have c_2 := bI_0.1 c_2
    refine lv_ldc (v := (-1000001)) hx hb hown (hts _ q1382) dX4_wouldLose_7 ?_
    exact z_iret (v := (-1000001)) hx hb hr hS (by unfold aWouldLose; (repeat' split) <;> first | rfl | contradiction | (exfalso; simp_all; done)) (by omega) (by omega) dX4_wouldLose_9
