set_option maxHeartbeats 4000000 in
set_option maxRecDepth 100000 in
theorem mX1_need (l : Launch) (D : va_G) (dA : Nat → ClassId) (ad : Nat → Nat) (sz : Nat) (st : Nat) (jn : Nat) (sl : Nat) (sa : Nat) (se : Nat) (tk : Int32) (tl : Int32) (tr : Int32) (lc : Int32) (lr : Int32) (ax : Int32) (slg : Nat → Int32) (al : Nat) (mc : Int32) (ae : Nat) (n : Nat) (j : Nat) (h1 : j ≤ 2) (h2 : n ≤ 100) (hstr : l.stackTraces = false) : vx_Met l yX1_need (ws_ yX1_need cX1_need 2 none) ({ frames := 6, cells := 1, slots := 7, locals := 165 }) (va_Pc [.ref st, .int (nI (j))] (zP D dA ad (fun q => sz ≤ q) sz (fun H => va_P D vwCl [(st, .inr (1, [.ref jn, .ref sl, .ref sa, .ref se, .int tk, .int tl, .int tr, .int lc, .int lr, .int ax])), (sl, .inl (dA 0, 3, .inl slg)), (jn, .inr (2, [.ref al])), (al, .inr (9, [.int mc, .ref ae, .int (nI (n))]))] H))) (zQv (fun H => ¬ slg j = -1 ∧ ¬ n = 100 ∧ va_P D vwCl [] H ∧ va_D (fun q => sz ≤ q) []) (fun q => sz ≤ q)) (zX "FencedStandbys$Refused" (fun q H => (slg j = -1 ∨ n = 100) ∧ RfP D (if slg j = -1 then cNP else cLR) q H) ((fun q => sz ≤ q))) (1) (7) (fun q => sz ≤ q) := by
  refine vx_ofW (cc := cX1_need) (maxL := 2) (ret := none) (by decide) rfl ?_
  intro p e s m args below meth c s₁ B hml htab hv
  obtain ⟨rfl, hsz, hC, hP⟩ := hv
  have hx := B.exec
  have hb := B.bytes
  have hr := B.returns
  have hts := atoms_spec (ws := ws_ yX1_need cX1_need 2 none) B.pre
  have hts : ∀ w ∈ lw_all, w.before _ s = true := fun w h => hts w (List.mem_cons_of_mem _ h)
  have hown : s.vm.findClass RX1 = some m.cls := findClass_of_methodNamed B.named
  have hlocks := B.notSynchronized
  subst hsz
  have hK := hC.K
  have hA : ∀ q : Nat, s.heap.size ≤ q → s.heap.size ≤ q := fun _ h => h
  have hS : va_S (fun q => s.heap.size ≤ q) s.heap s.heap [] := va_S.rf
  have hZ := hP
  have hP : va_P D vwCl [] s.heap := va_Pnil
  have hZ : zFz D (fun q => s.heap.size ≤ q) [(st, .inr (1, [.ref jn, .ref sl, .ref sa, .ref se, .int tk, .int tl, .int tr, .int lc, .int lr, .int ax])), (sl, .inl (dA 0, 3, .inl slg)), (jn, .inr (2, [.ref al])), (al, .inr (9, [.int mc, .ref ae, .int (nI (n))]))] s.heap := zFz_ro hZ
  have hD : va_D (fun q => s.heap.size ≤ q) [] := va_Dnil
  have hl := lv_entry ([.ref st, .int (nI (j))]) (n := 2) (Nat.le_of_ble_eq_true rfl)
  rw [lg_entry_eq]
  generalize (lg_sl ([.ref st, .int (nI (j))]) ++ List.replicate (2 - (lg_sl ([.ref st, .int (nI (j))])).length) Slot.unset).toArray = ls at hl ⊢
  have hl : lv_has ls 2 [(0, .ref st), (1, .int (nI (j)))] := hl
  refine lv_aload_n hx hb dX1_need_0 rfl (lv_at hl 0 rfl) ?_
  refine va_get (D := D) (ci := 1) (v := .ref sl) (C := RX1) (T := TX1) (N := 10) hx hb hts in_X1 hown hK (hZ.at hS) 0 rfl rfl 1 (by decide) (hts _ q194) (fun _ h9 => h9) rfl dX1_need_1 ?_
  refine lv_iload_n hx hb dX1_need_4 rfl (lv_at hl 1 rfl) ?_
  refine va_iald hx hb hK (hZ.at hS) 1 0 rfl rfl (vp_in_nI (by omega) (by omega)) dX1_need_5 ?_
  refine lv_tope (y := slg j) (by rw [nI_clamp (by omega)]) ?_
  refine lv_iconst (v := (-1)) hx hb dX1_need_6 (by decide) ?_
  refine lv_icmp_ne (tgt := 20) hx hb dX1_need_7 (by decide) (fun c_1 => ?_) (fun c_1 => ?_)
  · refine lv_aload_n hx hb dX1_need_20 rfl (lv_at hl 0 rfl) ?_
    refine va_get (D := D) (ci := 1) (v := .ref jn) (C := RX1) (T := TX1) (N := 10) hx hb hts in_X1 hown hK (hZ.at hS) 0 rfl rfl 0 (by decide) (hts _ q192) (fun _ h9 => h9) rfl dX1_need_21 ?_
    refine z_cVi (As := []) (rest := []) ⟨hx, hb, hml, hown, hts⟩ (mX2_size l D dA ad s.heap.size jn al mc ae n) (cwV 0 hts (lw_V q636 q637 q638 q56 q639) rfl rfl rfl (by decide +kernel) ⟨Nat.le_of_ble_eq_true rfl, Nat.le_of_ble_eq_true rfl⟩) hC hS (fun _ h => hA _ (Nat.le_trans hS.1 h)) ((hZ.at hS).sub (ws' := [(jn, .inr (2, [.ref al])), (al, .inr (9, [.int mc, .ref ae, .int (nI (n))]))]) [2, 3] rfl) (va_recv hK (hZ.at hS) (ci := 2) (q0 := 2) rfl rfl) rfl rfl hl.1 (Nat.le_of_ble_eq_true rfl) dX1_need_24 ⟨Nat.le_of_ble_eq_true rfl, Nat.le_of_ble_eq_true rfl⟩ (fun r_2 H locs hQ hF hS => ?_)
    have hP : va_P D vwCl [] H := va_Pnil
    obtain rfl : nI (n) = r_2 := hQ.symm
    refine lv_bipush (v := nI (100)) hx hb dX1_need_27 (by decide) ?_
    refine lv_icmp_ne (tgt := 42) hx hb dX1_need_29 (by decide) (fun c_3 => ?_) (fun c_3 => ?_)
    · have c_3 := mt (nI_eq (by omega) (by omega)).2 c_3
      exact vx_ret (z_vret hx hb hr hS (⟨c_1, c_3, hP, hD⟩) (by omega) (by omega) dX1_need_42)
    · have c_3 := (nI_eq (by omega) (by omega)).1 c_3
      refine z_newM (D := D) (ci := 5) (fs := [.null, .null, .null, .null, .null, .int 0, .int 0]) (C := RX5) (T := TX5) (N := 7) hx hb hts in_X5 tyX5 tyX5_ok hown (hts _ q625) (hts _ q555) (hts _ q78) hK hP hD hS hA rfl (fun j hj => by match j, hj with | 0, _ => rfl | 1, _ => rfl | 2, _ => rfl | 3, _ => rfl | 4, _ => rfl | 5, _ => rfl | 6, _ => rfl | j + 7, hj => exact absurd hj (by omega)) (by first | exact Nat.le_of_ble_eq_true rfl | (show _ ≤ _; simp only [headSpec]; omega)) (by first | exact Nat.le_of_ble_eq_true rfl | (show _ ≤ _; simp only [headSpec]; omega)) dX1_need_32 (fun q2 H hP hD hS hM9 => ?_)
      have hP : va_P D vwCl [(q2, .inr (5, [.null, .null, .null, .null, .null, .int 0, .int 0]))] H := hP
      have hD : va_D (fun q => s.heap.size ≤ q) [(q2, .inr (5, [.null, .null, .null, .null, .null, .int 0, .int 0]))] := hD
      refine lv_dup hx hb dX1_need_35 rfl ?_
      refine lv_ldc (v := (-1000003)) hx hb hown (hts _ q644) dX1_need_36 ?_
      refine z_cIv (As := [.int (-1000003)]) (rest := [.ref q2]) ⟨hx, hb, hml, hown, hts⟩ (mX5_init l D dA ad (fun q => s.heap.size ≤ q) H.size q2 (-1000003) (hA_up hA hS) (hstr) (hD.sub [0] (by decide) rfl)) (cwI 1 hts (lw_meth q595) rfl rfl rfl (hts _ q78) (hts _ q627) (hts _ q594) rfl (by decide +kernel) ⟨Nat.le_of_ble_eq_true rfl, Nat.le_of_ble_eq_true rfl⟩) hC hS (fun _ h => h) ⟨(hP.sub (ws' := [(q2, .inr (5, [.null, .null, .null, .null, .null, .int 0, .int 0]))]) [0] rfl), hM9⟩ rfl rfl hl.1 (Nat.le_of_ble_eq_true rfl) dX1_need_38 ⟨Nat.le_of_ble_eq_true rfl, Nat.le_of_ble_eq_true rfl⟩ (fun H locs hQ hF hS => ?_)
      obtain ⟨ru_5, rs_6, hQ, hP1, hD1⟩ := hQ
      have hP := hP1
      have hD := hD1
      have hP : va_P D vwCl [(q2, .inr (5, [.ref q2, va_rf ru_5, va_rf rs_6, .ref (ad (10 + 1)), .null, .int 0, .int (-1000003)]))] H := hP
      have hD : va_D (fun q => s.heap.size ≤ q) [(q2, .inr (5, [.ref q2, va_rf ru_5, va_rf rs_6, .ref (ad (10 + 1)), .null, .int 0, .int (-1000003)]))] := hD
      refine z_athrow hx hb dX1_need_41 ?_
      have hX9 : RfP D (-1000003) q2 H := ⟨_, _, _, _, _, _, hP 0 _ rfl⟩
      exact z_outR htab hlocks hC.K hS hX9 (⟨Or.inr c_3, by rw [if_neg c_1]; exact hX9⟩) (by omega) (by omega)
  · refine z_newM (D := D) (ci := 5) (fs := [.null, .null, .null, .null, .null, .int 0, .int 0]) (C := RX5) (T := TX5) (N := 7) hx hb hts in_X5 tyX5 tyX5_ok hown (hts _ q625) (hts _ q555) (hts _ q78) hK hP hD hS hA rfl (fun j hj => by match j, hj with | 0, _ => rfl | 1, _ => rfl | 2, _ => rfl | 3, _ => rfl | 4, _ => rfl | 5, _ => rfl | 6, _ => rfl | j + 7, hj => exact absurd hj (by omega)) (by first | exact Nat.le_of_ble_eq_true rfl | (show _ ≤ _; simp only [headSpec]; omega)) (by first | exact Nat.le_of_ble_eq_true rfl | (show _ ≤ _; simp only [headSpec]; omega)) dX1_need_10 (fun q1 H hP hD hS hM9 => ?_)
    have hP : va_P D vwCl [(q1, .inr (5, [.null, .null, .null, .null, .null, .int 0, .int 0]))] H := hP
    have hD : va_D (fun q => s.heap.size ≤ q) [(q1, .inr (5, [.null, .null, .null, .null, .null, .int 0, .int 0]))] := hD
    refine lv_dup hx hb dX1_need_13 rfl ?_
    refine lv_ldc (v := (-1000002)) hx hb hown (hts _ q626) dX1_need_14 ?_
    refine z_cIv (As := [.int (-1000002)]) (rest := [.ref q1]) ⟨hx, hb, hml, hown, hts⟩ (mX5_init l D dA ad (fun q => s.heap.size ≤ q) H.size q1 (-1000002) (hA_up hA hS) (hstr) (hD.sub [0] (by decide) rfl)) (cwI 1 hts (lw_meth q595) rfl rfl rfl (hts _ q78) (hts _ q627) (hts _ q594) rfl (by decide +kernel) ⟨Nat.le_of_ble_eq_true rfl, Nat.le_of_ble_eq_true rfl⟩) hC hS (fun _ h => h) ⟨(hP.sub (ws' := [(q1, .inr (5, [.null, .null, .null, .null, .null, .int 0, .int 0]))]) [0] rfl), hM9⟩ rfl rfl hl.1 (Nat.le_of_ble_eq_true rfl) dX1_need_16 ⟨Nat.le_of_ble_eq_true rfl, Nat.le_of_ble_eq_true rfl⟩ (fun H locs hQ hF hS => ?_)
    obtain ⟨ru_8, rs_9, hQ, hP1, hD1⟩ := hQ
    have hP := hP1
    have hD := hD1
    have hP : va_P D vwCl [(q1, .inr (5, [.ref q1, va_rf ru_8, va_rf rs_9, .ref (ad (10 + 1)), .null, .int 0, .int (-1000002)]))] H := hP
    have hD : va_D (fun q => s.heap.size ≤ q) [(q1, .inr (5, [.ref q1, va_rf ru_8, va_rf rs_9, .ref (ad (10 + 1)), .null, .int 0, .int (-1000002)]))] := hD
    refine z_athrow hx hb dX1_need_19 ?_
    have hX9 : RfP D (-1000002) q1 H := ⟨_, _, _, _, _, _, hP 0 _ rfl⟩
    exact z_outR htab hlocks hC.K hS hX9 (⟨Or.inl c_1, by rw [if_pos c_1]; exact hX9⟩) (by omega) (by omega)

set_option maxHeartbeats 4000000 in
set_option maxRecDepth 100000 in
theorem mX1_opened (l : Launch) (D : va_G) (dA : Nat → ClassId) (ad : Nat → Nat) (A : Nat → Prop) (sz : Nat) (st : Nat) (jn : Nat) (sl : Nat) (sa : Nat) (se : Nat) (tk : Int32) (tl : Int32) (tr : Int32) (lc : Int32) (lr : Int32) (ax : Int32) (slg : Nat → Int32) (j : Nat) (hA : ∀ q, sz ≤ q → A q) (h1 : j ≤ 2) (hstr : l.stackTraces = false) (hD : va_D A [(st, .inr (1, [.ref jn, .ref sl, .ref sa, .ref se, .int tk, .int tl, .int tr, .int lc, .int lr, .int ax])), (sl, .inl (dA 0, 3, .inl slg))]) : vx_Met l yX1_opened (ws_ yX1_opened cX1_opened 2 (some .int)) ({ frames := 6, cells := 1, slots := 7, locals := 165 }) (va_Pc [.ref st, .int (nI (j))] (zP D dA ad A sz (fun H => va_P D vwCl [(st, .inr (1, [.ref jn, .ref sl, .ref sa, .ref se, .int tk, .int tl, .int tr, .int lc, .int lr, .int ax])), (sl, .inl (dA 0, 3, .inl slg))] H))) (zQi (fun rz H => rz = tr + nI (1) ∧ slg j = -1 ∧ va_P D vwCl [(st, .inr (1, [.ref jn, .ref sl, .ref sa, .ref se, .int tk, .int tl, .int (tr + nI (1)), .int lc, .int lr, .int ax])), (sl, .inl (dA 0, 3, .inl (upd slg j (tr + nI (1)))))] H ∧ va_D A [(st, .inr (1, [.ref jn, .ref sl, .ref sa, .ref se, .int tk, .int tl, .int (tr + nI (1)), .int lc, .int lr, .int ax])), (sl, .inl (dA 0, 3, .inl (upd slg j (tr + nI (1)))))]) A) (zX "FencedStandbys$Refused" (fun q H => ¬ slg j = -1 ∧ RfP D cNP q H) (A)) (1) (7) A := by
  refine vx_ofW (cc := cX1_opened) (maxL := 2) (ret := (some .int)) (by decide) rfl ?_
  intro p e s m args below meth c s₁ B hml htab hv
  obtain ⟨rfl, hsz, hC, hP⟩ := hv
  have hx := B.exec
  have hb := B.bytes
  have hr := B.returns
  have hts := atoms_spec (ws := ws_ yX1_opened cX1_opened 2 (some .int)) B.pre
  have hts : ∀ w ∈ lw_all, w.before _ s = true := fun w h => hts w (List.mem_cons_of_mem _ h)
  have hown : s.vm.findClass RX1 = some m.cls := findClass_of_methodNamed B.named
  have hlocks := B.notSynchronized
  subst hsz
  have hK := hC.K
  have hS : va_S A s.heap s.heap [] := va_S.rf
  have hP : va_P D vwCl [(st, .inr (1, [.ref jn, .ref sl, .ref sa, .ref se, .int tk, .int tl, .int tr, .int lc, .int lr, .int ax])), (sl, .inl (dA 0, 3, .inl slg))] s.heap := hP
  have hl := lv_entry ([.ref st, .int (nI (j))]) (n := 2) (Nat.le_of_ble_eq_true rfl)
  rw [lg_entry_eq]
  generalize (lg_sl ([.ref st, .int (nI (j))]) ++ List.replicate (2 - (lg_sl ([.ref st, .int (nI (j))])).length) Slot.unset).toArray = ls at hl ⊢
  have hl : lv_has ls 2 [(0, .ref st), (1, .int (nI (j)))] := hl
  refine lv_aload_n hx hb dX1_opened_0 rfl (lv_at hl 0 rfl) ?_
  refine va_get (D := D) (ci := 1) (v := .ref sl) (C := RX1) (T := TX1) (N := 10) hx hb hts in_X1 hown hK hP 0 rfl rfl 1 (by decide) (hts _ q194) (fun _ h9 => h9) rfl dX1_opened_1 ?_
  refine lv_iload_n hx hb dX1_opened_4 rfl (lv_at hl 1 rfl) ?_
  refine va_iald hx hb hK hP 1 0 rfl rfl (vp_in_nI (by omega) (by omega)) dX1_opened_5 ?_
  refine lv_tope (y := slg j) (by rw [nI_clamp (by omega)]) ?_
  refine lv_iconst (v := (-1)) hx hb dX1_opened_6 (by decide) ?_
  refine lv_icmp_eq (tgt := 20) hx hb dX1_opened_7 (by decide) (fun c_1 => ?_) (fun c_1 => ?_)
  · refine lv_aload_n hx hb dX1_opened_20 rfl (lv_at hl 0 rfl) ?_
    refine lv_dup hx hb dX1_opened_21 rfl ?_
    refine va_get (D := D) (ci := 1) (v := .int tr) (C := RX1) (T := TX1) (N := 10) hx hb hts in_X1 hown hK hP 0 rfl rfl 6 (by decide) (hts _ q204) (fun _ h9 => h9) rfl dX1_opened_22 ?_
    refine lv_iconst (v := nI (1)) hx hb dX1_opened_25 (by decide) ?_
    refine lv_iadd hx hb dX1_opened_26 ?_
    refine va_put (D := D) (ci := 1) (v := .int (tr + (nI (1)))) (ty := .int) (C := RX1) (T := TX1) (N := 10) hx hb hts in_X1 tyX1 tyX1_ok nmX1 hown hK hP hD hS 0 rfl rfl 6 (by decide) (hts _ q204) (fun _ h9 => h9) rfl (by decide +kernel) rfl rfl (Nat.le_of_ble_eq_true rfl) dX1_opened_27 (fun H locs hP hD hS => ?_)
    have hP : va_P D vwCl [(st, .inr (1, [.ref jn, .ref sl, .ref sa, .ref se, .int tk, .int tl, .int (tr + (nI (1))), .int lc, .int lr, .int ax])), (sl, .inl (dA 0, 3, .inl slg))] H := hP
    have hD : va_D A [(st, .inr (1, [.ref jn, .ref sl, .ref sa, .ref se, .int tk, .int tl, .int (tr + (nI (1))), .int lc, .int lr, .int ax])), (sl, .inl (dA 0, 3, .inl slg))] := hD
    refine lv_aload_n hx hb dX1_opened_30 rfl (lv_at hl 0 rfl) ?_
    refine va_get (D := D) (ci := 1) (v := .ref sl) (C := RX1) (T := TX1) (N := 10) hx hb hts in_X1 hown hK hP 0 rfl rfl 1 (by decide) (hts _ q194) (fun _ h9 => h9) rfl dX1_opened_31 ?_
    refine lv_iload_n hx hb dX1_opened_34 rfl (lv_at hl 1 rfl) ?_
    refine lv_aload_n hx hb dX1_opened_35 rfl (lv_at hl 0 rfl) ?_
    refine va_get (D := D) (ci := 1) (v := .int (tr + (nI (1)))) (C := RX1) (T := TX1) (N := 10) hx hb hts in_X1 hown hK hP 0 rfl rfl 6 (by decide) (hts _ q204) (fun _ h9 => h9) rfl dX1_opened_36 ?_
    refine va_iast hx hb hK hP hD hS 1 0 rfl rfl (vp_in_nI (by omega) (by omega)) dX1_opened_39 (fun H locs hP hD hS => ?_)
    rw [nI_clamp (by omega)] at hP hD
    have hP : va_P D vwCl [(st, .inr (1, [.ref jn, .ref sl, .ref sa, .ref se, .int tk, .int tl, .int (tr + (nI (1))), .int lc, .int lr, .int ax])), (sl, .inl (dA 0, 3, .inl (upd slg j (tr + (nI (1))))))] H := hP
    have hD : va_D A [(st, .inr (1, [.ref jn, .ref sl, .ref sa, .ref se, .int tk, .int tl, .int (tr + (nI (1))), .int lc, .int lr, .int ax])), (sl, .inl (dA 0, 3, .inl (upd slg j (tr + (nI (1))))))] := hD
    refine lv_aload_n hx hb dX1_opened_40 rfl (lv_at hl 0 rfl) ?_
    refine va_get (D := D) (ci := 1) (v := .int (tr + (nI (1)))) (C := RX1) (T := TX1) (N := 10) hx hb hts in_X1 hown hK hP 0 rfl rfl 6 (by decide) (hts _ q204) (fun _ h9 => h9) rfl dX1_opened_41 ?_
    exact vx_ret (z_iret (v := tr + (nI (1))) hx hb hr hS (⟨rfl, c_1, hP, hD⟩) (by omega) (by omega) dX1_opened_44)
  · refine z_newM (D := D) (ci := 5) (fs := [.null, .null, .null, .null, .null, .int 0, .int 0]) (C := RX5) (T := TX5) (N := 7) hx hb hts in_X5 tyX5 tyX5_ok hown (hts _ q625) (hts _ q555) (hts _ q78) hK hP hD hS hA rfl (fun j hj => by match j, hj with | 0, _ => rfl | 1, _ => rfl | 2, _ => rfl | 3, _ => rfl | 4, _ => rfl | 5, _ => rfl | 6, _ => rfl | j + 7, hj => exact absurd hj (by omega)) (by first | exact Nat.le_of_ble_eq_true rfl | (show _ ≤ _; simp only [headSpec]; omega)) (by first | exact Nat.le_of_ble_eq_true rfl | (show _ ≤ _; simp only [headSpec]; omega)) dX1_opened_10 (fun q1 H hP hD hS hM9 => ?_)
    have hP : va_P D vwCl [(st, .inr (1, [.ref jn, .ref sl, .ref sa, .ref se, .int tk, .int tl, .int tr, .int lc, .int lr, .int ax])), (sl, .inl (dA 0, 3, .inl slg)), (q1, .inr (5, [.null, .null, .null, .null, .null, .int 0, .int 0]))] H := hP
    have hD : va_D A [(st, .inr (1, [.ref jn, .ref sl, .ref sa, .ref se, .int tk, .int tl, .int tr, .int lc, .int lr, .int ax])), (sl, .inl (dA 0, 3, .inl slg)), (q1, .inr (5, [.null, .null, .null, .null, .null, .int 0, .int 0]))] := hD
    refine lv_dup hx hb dX1_opened_13 rfl ?_
    refine lv_ldc (v := (-1000002)) hx hb hown (hts _ q626) dX1_opened_14 ?_
    have hDc := (hD.sub (ws' := [(q1, .inr (5, [.null, .null, .null, .null, .null, .int 0, .int 0]))]) [2] (by decide) rfl).self (sz := H.size)
    have hFc := va_free (wc := [(q1, .inr (5, [.null, .null, .null, .null, .null, .int 0, .int 0]))]) hD hS hA [2] rfl
    refine z_cIv (As := [.int (-1000002)]) (rest := [.ref q1]) ⟨hx, hb, hml, hown, hts⟩ (mX5_init l D dA ad (va_A [(q1, .inr (5, [.null, .null, .null, .null, .null, .int 0, .int 0]))] H.size) H.size q1 (-1000002) (fun _ h => Or.inr h) (hstr) hDc) (cwI 1 hts (lw_meth q595) rfl rfl rfl (hts _ q78) (hts _ q627) (hts _ q594) rfl (by decide +kernel) ⟨Nat.le_of_ble_eq_true rfl, Nat.le_of_ble_eq_true rfl⟩) hC hS (hFc) ⟨(hP.sub (ws' := [(q1, .inr (5, [.null, .null, .null, .null, .null, .int 0, .int 0]))]) [2] rfl), hM9⟩ rfl rfl hl.1 (Nat.le_of_ble_eq_true rfl) dX1_opened_16 ⟨Nat.le_of_ble_eq_true rfl, Nat.le_of_ble_eq_true rfl⟩ (fun H locs hQ hF hS => ?_)
    obtain ⟨ru_3, rs_4, hQ, hP1, hD1⟩ := hQ
    obtain ⟨hP, hD⟩ := va_join (wr := [(st, .inr (1, [.ref jn, .ref sl, .ref sa, .ref se, .int tk, .int tl, .int tr, .int lc, .int lr, .int ax])), (sl, .inl (dA 0, 3, .inl slg))]) (w1 := [(q1, .inr (5, [.ref q1, va_rf ru_3, va_rf rs_4, .ref (ad (10 + 1)), .null, .int 0, .int (-1000002)]))]) hP hD [2] [0, 1] rfl rfl (by decide) (by decide) hF.2 hFc hP1 hD1
    have hP : va_P D vwCl [(st, .inr (1, [.ref jn, .ref sl, .ref sa, .ref se, .int tk, .int tl, .int tr, .int lc, .int lr, .int ax])), (sl, .inl (dA 0, 3, .inl slg)), (q1, .inr (5, [.ref q1, va_rf ru_3, va_rf rs_4, .ref (ad (10 + 1)), .null, .int 0, .int (-1000002)]))] H := hP
    have hD : va_D A [(st, .inr (1, [.ref jn, .ref sl, .ref sa, .ref se, .int tk, .int tl, .int tr, .int lc, .int lr, .int ax])), (sl, .inl (dA 0, 3, .inl slg)), (q1, .inr (5, [.ref q1, va_rf ru_3, va_rf rs_4, .ref (ad (10 + 1)), .null, .int 0, .int (-1000002)]))] := hD
    refine z_athrow hx hb dX1_opened_19 ?_
    have hX9 : RfP D (-1000002) q1 H := ⟨_, _, _, _, _, _, hP 2 _ rfl⟩
    exact z_outR htab hlocks hC.K hS hX9 (⟨c_1, hX9⟩) (by omega) (by omega)

set_option maxHeartbeats 4000000 in
set_option maxRecDepth 100000 in
theorem mX1_well (l : Launch) (D : va_G) (dA : Nat → ClassId) (ad : Nat → Nat) (sz : Nat) (st : Nat) (jn : Nat) (sl : Nat) (sa : Nat) (se : Nat) (tk : Int32) (tl : Int32) (tr : Int32) (lc : Int32) (lr : Int32) (ax : Int32) (h : Nat → Option Nat) (sy : Nat) (x0 : Int32) (x1 : Int32) (x2 : Nat) (ast : Int32) (j : Nat) (h1 : j < 2) (hg : h j = some sy) (hstr : l.stackTraces = false) : vx_Met l yX1_well (ws_ yX1_well cX1_well 2 (some (.object "FencedStandbys$Standby"))) ({ frames := 6, cells := 1, slots := 7, locals := 165 }) (va_Pc [.ref st, .int (nI (j))] (zP D dA ad (fun q => sz ≤ q) sz (fun H => va_P D vwCl [(st, .inr (1, [.ref jn, .ref sl, .ref sa, .ref se, .int tk, .int tl, .int tr, .int lc, .int lr, .int ax])), (sa, .inl (dA 4, 2, .inr (.inr (.inr (.inr h))))), (sy, .inr (3, [.int x0, .int x1, .ref x2, .int ast]))] H))) (zQq (fun rz H => rz = (some sy) ∧ ast = 0 ∧ va_P D vwCl [] H ∧ va_D (fun q => sz ≤ q) []) (fun q => sz ≤ q)) (zX "FencedStandbys$Refused" (fun q H => ¬ ast = 0 ∧ RfP D cNP q H) ((fun q => sz ≤ q))) (1) (7) (fun q => sz ≤ q) := by
  refine vx_ofW (cc := cX1_well) (maxL := 2) (ret := (some (.object "FencedStandbys$Standby"))) (by decide) rfl ?_
  intro p e s m args below meth c s₁ B hml htab hv
  obtain ⟨rfl, hsz, hC, hP⟩ := hv
  have hx := B.exec
  have hb := B.bytes
  have hr := B.returns
  have hts := atoms_spec (ws := ws_ yX1_well cX1_well 2 (some (.object "FencedStandbys$Standby"))) B.pre
  have hts : ∀ w ∈ lw_all, w.before _ s = true := fun w h => hts w (List.mem_cons_of_mem _ h)
  have hown : s.vm.findClass RX1 = some m.cls := findClass_of_methodNamed B.named
  have hlocks := B.notSynchronized
  subst hsz
  have hK := hC.K
  have hA : ∀ q : Nat, s.heap.size ≤ q → s.heap.size ≤ q := fun _ h => h
  have hS : va_S (fun q => s.heap.size ≤ q) s.heap s.heap [] := va_S.rf
  have hZ := hP
  have hP : va_P D vwCl [] s.heap := va_Pnil
  have hZ : zFz D (fun q => s.heap.size ≤ q) [(st, .inr (1, [.ref jn, .ref sl, .ref sa, .ref se, .int tk, .int tl, .int tr, .int lc, .int lr, .int ax])), (sa, .inl (dA 4, 2, .inr (.inr (.inr (.inr h))))), (sy, .inr (3, [.int x0, .int x1, .ref x2, .int ast]))] s.heap := zFz_ro hZ
  have hD : va_D (fun q => s.heap.size ≤ q) [] := va_Dnil
  have hl := lv_entry ([.ref st, .int (nI (j))]) (n := 2) (Nat.le_of_ble_eq_true rfl)
  rw [lg_entry_eq]
  generalize (lg_sl ([.ref st, .int (nI (j))]) ++ List.replicate (2 - (lg_sl ([.ref st, .int (nI (j))])).length) Slot.unset).toArray = ls at hl ⊢
  have hl : lv_has ls 2 [(0, .ref st), (1, .int (nI (j)))] := hl
  refine lv_aload_n hx hb dX1_well_0 rfl (lv_at hl 0 rfl) ?_
  refine va_get (D := D) (ci := 1) (v := .ref sa) (C := RX1) (T := TX1) (N := 10) hx hb hts in_X1 hown hK (hZ.at hS) 0 rfl rfl 2 (by decide) (hts _ q196) (fun _ h9 => h9) rfl dX1_well_1 ?_
  refine lv_iload_n hx hb dX1_well_4 rfl (lv_at hl 1 rfl) ?_
  refine va_aldq hx hb hK (hZ.at hS) 1 4 rfl rfl (vp_in_nI (by omega) (by omega)) dX1_well_5 ?_
  refine lv_topv (y := .ref sy) (by rw [nI_clamp (by omega)]; rw [hg]; rfl) ?_
  refine va_getN (D := D) (ci := 3) (v := .int ast) (C := RX3) (T := TX3) (N := 4) hx hb hts in_X3 hown hK (hZ.at hS) 2 rfl rfl 3 (by decide) (Cx.nF hC (List.mem_of_getElem? (i := 23) rfl)) (fun _ h9 => h9) rfl dX1_well_6 ?_
  refine lv_if_eq (tgt := 22) hx hb dX1_well_9 (by decide) (fun c_1 => ?_) (fun c_1 => ?_)
  · refine lv_aload_n hx hb dX1_well_22 rfl (lv_at hl 0 rfl) ?_
    refine va_get (D := D) (ci := 1) (v := .ref sa) (C := RX1) (T := TX1) (N := 10) hx hb hts in_X1 hown hK (hZ.at hS) 0 rfl rfl 2 (by decide) (hts _ q196) (fun _ h9 => h9) rfl dX1_well_23 ?_
    refine lv_iload_n hx hb dX1_well_26 rfl (lv_at hl 1 rfl) ?_
    refine va_aldq hx hb hK (hZ.at hS) 1 4 rfl rfl (vp_in_nI (by omega) (by omega)) dX1_well_27 ?_
    refine lv_topv (y := .ref sy) (by rw [nI_clamp (by omega)]; rw [hg]; rfl) ?_
    exact vx_ret (z_qret (v := (some sy)) hx hb hr (Or.inl ⟨_, rfl⟩) hS (⟨rfl, c_1, hP, hD⟩) (by omega) (by omega) dX1_well_28)
  · refine z_newM (D := D) (ci := 5) (fs := [.null, .null, .null, .null, .null, .int 0, .int 0]) (C := RX5) (T := TX5) (N := 7) hx hb hts in_X5 tyX5 tyX5_ok hown (hts _ q625) (hts _ q555) (hts _ q78) hK hP hD hS hA rfl (fun j hj => by match j, hj with | 0, _ => rfl | 1, _ => rfl | 2, _ => rfl | 3, _ => rfl | 4, _ => rfl | 5, _ => rfl | 6, _ => rfl | j + 7, hj => exact absurd hj (by omega)) (by first | exact Nat.le_of_ble_eq_true rfl | (show _ ≤ _; simp only [headSpec]; omega)) (by first | exact Nat.le_of_ble_eq_true rfl | (show _ ≤ _; simp only [headSpec]; omega)) dX1_well_12 (fun q1 H hP hD hS hM9 => ?_)
    have hP : va_P D vwCl [(q1, .inr (5, [.null, .null, .null, .null, .null, .int 0, .int 0]))] H := hP
    have hD : va_D (fun q => s.heap.size ≤ q) [(q1, .inr (5, [.null, .null, .null, .null, .null, .int 0, .int 0]))] := hD
    refine lv_dup hx hb dX1_well_15 rfl ?_
    refine lv_ldc (v := (-1000002)) hx hb hown (hts _ q626) dX1_well_16 ?_
    refine z_cIv (As := [.int (-1000002)]) (rest := [.ref q1]) ⟨hx, hb, hml, hown, hts⟩ (mX5_init l D dA ad (fun q => s.heap.size ≤ q) H.size q1 (-1000002) (hA_up hA hS) (hstr) (hD.sub [0] (by decide) rfl)) (cwI 1 hts (lw_meth q595) rfl rfl rfl (hts _ q78) (hts _ q627) (hts _ q594) rfl (by decide +kernel) ⟨Nat.le_of_ble_eq_true rfl, Nat.le_of_ble_eq_true rfl⟩) hC hS (fun _ h => h) ⟨(hP.sub (ws' := [(q1, .inr (5, [.null, .null, .null, .null, .null, .int 0, .int 0]))]) [0] rfl), hM9⟩ rfl rfl hl.1 (Nat.le_of_ble_eq_true rfl) dX1_well_18 ⟨Nat.le_of_ble_eq_true rfl, Nat.le_of_ble_eq_true rfl⟩ (fun H locs hQ hF hS => ?_)
    obtain ⟨ru_3, rs_4, hQ, hP1, hD1⟩ := hQ
    have hP := hP1
    have hD := hD1
    have hP : va_P D vwCl [(q1, .inr (5, [.ref q1, va_rf ru_3, va_rf rs_4, .ref (ad (10 + 1)), .null, .int 0, .int (-1000002)]))] H := hP
    have hD : va_D (fun q => s.heap.size ≤ q) [(q1, .inr (5, [.ref q1, va_rf ru_3, va_rf rs_4, .ref (ad (10 + 1)), .null, .int 0, .int (-1000002)]))] := hD
    refine z_athrow hx hb dX1_well_21 ?_
    have hX9 : RfP D (-1000002) q1 H := ⟨_, _, _, _, _, _, hP 0 _ rfl⟩
    exact z_outR htab hlocks hC.K hS hX9 (⟨c_1, hX9⟩) (by omega) (by omega)
