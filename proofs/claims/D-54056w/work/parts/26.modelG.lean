set_option maxHeartbeats 4000000 in
set_option maxRecDepth 100000 in
theorem mX4_count (l : Launch) (D : va_G) (dA : Nat → ClassId) (ad : Nat → Nat) (sz : Nat) (m0 : Nat) (sa : Nat) (pa : Nat) (ha : Nat) (xa : Nat) (ta : Nat) (v3 : Int32) (v4 : Int32) (v6 : Int32) (v7 : Int32) (v8 : Int32) (v9 : Int32) (v10 : Int32) (v11 : Int32) (v12 : Int32) (f : Nat → Int32) (w0 : Int32) (hI : InvA f) : Met l yX4_count (ws_ yX4_count cX4_count 2 (some .int)) ({ frames := 3, cells := 0, slots := 0, locals := 90 }) (va_Pc [.ref m0, .int w0] (zP D dA ad (fun q => sz ≤ q) sz (fun H => va_P D vwCl [(m0, .inr (4, [.ref sa, .ref pa, .ref ha, .int v3, .int v4, .ref xa, .int v6, .int v7, .int v8, .int v9, .int v10, .int v11, .int v12, .ref ta])), (sa, .inl (dA 0, 718, .inl f))] H))) (zQi (fun rz H => rz = aCount f v3 v6 w0) (fun q => sz ≤ q)) (0) (0) (fun q => sz ≤ q) := by
  refine Met.ofW (cc := cX4_count) (maxL := 2) (ret := (some .int)) (by decide) rfl ?_
  intro p e s m args below meth c s₁ B hml hv
  obtain ⟨rfl, hsz, hC, hP⟩ := hv
  have hx := B.exec
  have hb := B.bytes
  have hr := B.returns
  have hts := atoms_spec (ws := ws_ yX4_count cX4_count 2 (some .int)) B.pre
  have hts : ∀ w ∈ lw_all, w.before _ s = true := fun w h => hts w (List.mem_cons_of_mem _ h)
  have hown : s.vm.findClass RX4 = some m.cls := findClass_of_methodNamed B.named
  have hlocks := B.notSynchronized
  subst hsz
  have hK := hC.K
  have hA : ∀ q : Nat, s.heap.size ≤ q → s.heap.size ≤ q := fun _ h => h
  have hS : va_S (fun q => s.heap.size ≤ q) s.heap s.heap [] := va_S.rf
  have hP : va_P D vwCl [(m0, .inr (4, [.ref sa, .ref pa, .ref ha, .int v3, .int v4, .ref xa, .int v6, .int v7, .int v8, .int v9, .int v10, .int v11, .int v12, .ref ta])), (sa, .inl (dA 0, 718, .inl f))] s.heap := hP
  have hI0 := hI
  obtain ⟨hf0, hn, hsb, hrt, hrt2⟩ := hI
  have hl := lv_entry ([.ref m0, .int w0]) (n := 2) (Nat.le_of_ble_eq_true rfl)
  rw [lg_entry_eq]
  generalize (lg_sl ([.ref m0, .int w0]) ++ List.replicate (2 - (lg_sl ([.ref m0, .int w0])).length) Slot.unset).toArray = ls at hl ⊢
  have hl : lv_has ls 2 [(0, .ref m0), (1, .int w0)] := hl
  refine lv_iload_n hx hb dX4_count_0 rfl (lv_at hl 1 rfl) ?_
  rcases pk_ix w0 (n := 22) (by decide) with q9 | q9 | ⟨j, hj, rfl⟩
  · refine lv_tableOut (tgt := 157) hx hb dX4_count_1 (Or.inl (by have h9 := Int32.lt_iff_toInt_lt.1 q9; exact h9)) (by decide) ?_
    refine lv_ldc (v := (-1000001)) hx hb hown (hts _ q1382) dX4_count_157 ?_
    exact z_iret (v := (-1000001)) hx hb hr hS (by unfold aCount; rw [if_neg]; intro q; first | exact absurd q.1 (Int32.not_le.2 q9) | exact absurd (Int32.le_trans q9 q.2) (by decide)) (by omega) (by omega) dX4_count_159
  · refine lv_tableOut (tgt := 157) hx hb dX4_count_1 (Or.inr (by have h9 := Int32.le_iff_toInt_le.1 q9; have h8 : (nI 22).toInt = 22 := (by decide); omega)) (by decide) ?_
    refine lv_ldc (v := (-1000001)) hx hb hown (hts _ q1382) dX4_count_157 ?_
    exact z_iret (v := (-1000001)) hx hb hr hS (by unfold aCount; rw [if_neg]; intro q; first | exact absurd q.1 (Int32.not_le.2 q9) | exact absurd (Int32.le_trans q9 q.2) (by decide)) (by omega) (by omega) dX4_count_159
  · rcases (show j = 0 ∨ j = 1 ∨ j = 2 ∨ j = 3 ∨ j = 4 ∨ j = 5 ∨ j = 6 ∨ j = 7 ∨ j = 8 ∨ j = 9 ∨ j = 10 ∨ j = 11 ∨ j = 12 ∨ j = 13 ∨ j = 14 ∨ j = 15 ∨ j = 16 ∨ j = 17 ∨ j = 18 ∨ j = 19 ∨ j = 20 ∨ j = 21 by omega) with rfl | rfl | rfl | rfl | rfl | rfl | rfl | rfl | rfl | rfl | rfl | rfl | rfl | rfl | rfl | rfl | rfl | rfl | rfl | rfl | rfl | rfl
    · refine lv_tableIn (off := 103) (tgt := 104) hx hb dX4_count_1 (by decide) (by decide) (by decide) (by decide) ?_
      refine lv_aload_n hx hb dX4_count_104 rfl (lv_at hl 0 rfl) ?_
      refine va_get (D := D) (ci := 4) (v := .ref sa) (C := RX4) (T := TX4) (N := 14) hx hb hts in_X4 hown hK hP 0 rfl rfl 0 (by decide) (hts _ q1329) (fun _ h9 => h9) rfl dX4_count_105 ?_
      refine lv_iload_n hx hb dX4_count_108 rfl (lv_at hl 1 rfl) ?_
      refine va_iald hx hb hK hP 1 0 rfl rfl (vp_in_nI (by omega) (by omega)) dX4_count_109 ?_
      refine lv_tope (y := f 0) (by rw [nI_clamp (by omega)]) ?_
      exact z_iret (v := f 0) hx hb hr hS (by unfold aCount; rw [if_pos (by decide), nI_clamp (by decide)]; rfl) (by omega) (by omega) dX4_count_110
    · refine lv_tableIn (off := 103) (tgt := 104) hx hb dX4_count_1 (by decide) (by decide) (by decide) (by decide) ?_
      refine lv_aload_n hx hb dX4_count_104 rfl (lv_at hl 0 rfl) ?_
      refine va_get (D := D) (ci := 4) (v := .ref sa) (C := RX4) (T := TX4) (N := 14) hx hb hts in_X4 hown hK hP 0 rfl rfl 0 (by decide) (hts _ q1329) (fun _ h9 => h9) rfl dX4_count_105 ?_
      refine lv_iload_n hx hb dX4_count_108 rfl (lv_at hl 1 rfl) ?_
      refine va_iald hx hb hK hP 1 0 rfl rfl (vp_in_nI (by omega) (by omega)) dX4_count_109 ?_
      refine lv_tope (y := f 1) (by rw [nI_clamp (by omega)]) ?_
      exact z_iret (v := f 1) hx hb hr hS (by unfold aCount; rw [if_pos (by decide), nI_clamp (by decide)]; rfl) (by omega) (by omega) dX4_count_110
    · refine lv_tableIn (off := 103) (tgt := 104) hx hb dX4_count_1 (by decide) (by decide) (by decide) (by decide) ?_
      refine lv_aload_n hx hb dX4_count_104 rfl (lv_at hl 0 rfl) ?_
      refine va_get (D := D) (ci := 4) (v := .ref sa) (C := RX4) (T := TX4) (N := 14) hx hb hts in_X4 hown hK hP 0 rfl rfl 0 (by decide) (hts _ q1329) (fun _ h9 => h9) rfl dX4_count_105 ?_
      refine lv_iload_n hx hb dX4_count_108 rfl (lv_at hl 1 rfl) ?_
      refine va_iald hx hb hK hP 1 0 rfl rfl (vp_in_nI (by omega) (by omega)) dX4_count_109 ?_
      refine lv_tope (y := f 2) (by rw [nI_clamp (by omega)]) ?_
      exact z_iret (v := f 2) hx hb hr hS (by unfold aCount; rw [if_pos (by decide), nI_clamp (by decide)]; rfl) (by omega) (by omega) dX4_count_110
    · refine lv_tableIn (off := 103) (tgt := 104) hx hb dX4_count_1 (by decide) (by decide) (by decide) (by decide) ?_
      refine lv_aload_n hx hb dX4_count_104 rfl (lv_at hl 0 rfl) ?_
      refine va_get (D := D) (ci := 4) (v := .ref sa) (C := RX4) (T := TX4) (N := 14) hx hb hts in_X4 hown hK hP 0 rfl rfl 0 (by decide) (hts _ q1329) (fun _ h9 => h9) rfl dX4_count_105 ?_
      refine lv_iload_n hx hb dX4_count_108 rfl (lv_at hl 1 rfl) ?_
      refine va_iald hx hb hK hP 1 0 rfl rfl (vp_in_nI (by omega) (by omega)) dX4_count_109 ?_
      refine lv_tope (y := f 3) (by rw [nI_clamp (by omega)]) ?_
      exact z_iret (v := f 3) hx hb hr hS (by unfold aCount; rw [if_pos (by decide), nI_clamp (by decide)]; rfl) (by omega) (by omega) dX4_count_110
    · refine lv_tableIn (off := 110) (tgt := 111) hx hb dX4_count_1 (by decide) (by decide) (by decide) (by decide) ?_
      refine lv_aload_n hx hb dX4_count_111 rfl (lv_at hl 0 rfl) ?_
      refine lv_iconst (v := nI (1)) hx hb dX4_count_112 (by decide) ?_
      refine lv_aload_n hx hb dX4_count_113 rfl (lv_at hl 0 rfl) ?_
      refine va_get (D := D) (ci := 4) (v := .ref sa) (C := RX4) (T := TX4) (N := 14) hx hb hts in_X4 hown hK hP 0 rfl rfl 0 (by decide) (hts _ q1329) (fun _ h9 => h9) rfl dX4_count_114 ?_
      refine lv_iconst (v := nI (0)) hx hb dX4_count_117 (by decide) ?_
      refine va_iald hx hb hK hP 1 0 rfl rfl (vp_in_nI (by omega) (by omega)) dX4_count_118 ?_
      refine lv_tope (y := f 0) (by rw [nI_clamp (by omega)]) ?_
      refine lv_tope (y := nI (rN f)) (hf0) ?_
      refine z_cVi (As := [.int (nI (1)), .int (nI (rN f))]) (rest := []) ⟨hx, hb, hml, hown, hts⟩ (mX4_commits l D dA ad s.heap.size m0 sa pa ha xa ta v3 v4 v6 v7 v8 v9 v10 v11 v12 f 1 (rN f) (by omega) (by omega) (by omega)) (cwV 2 hts (lw_V q1464 q1466 qs37 q67 q1467) rfl rfl rfl (by decide +kernel) ⟨Nat.le_of_ble_eq_true rfl, Nat.le_of_ble_eq_true rfl⟩) hC hS (fun _ h => hA _ (Nat.le_trans hS.1 h)) (hP.sub (ws' := [(m0, .inr (4, [.ref sa, .ref pa, .ref ha, .int v3, .int v4, .ref xa, .int v6, .int v7, .int v8, .int v9, .int v10, .int v11, .int v12, .ref ta])), (sa, .inl (dA 0, 718, .inl f))]) [0, 1] rfl) (va_recv hK hP (ci := 4) (q0 := 0) rfl rfl) rfl rfl hl.1 (Nat.le_of_ble_eq_true rfl) dX4_count_119 ⟨Nat.le_of_ble_eq_true rfl, Nat.le_of_ble_eq_true rfl⟩ (fun r_1 H locs hQ hF hS => ?_)
      have hP := va_P.ro hF hP
      obtain rfl : nI (commits f 1 ((rN f) + 1 - 1)) = r_1 := hQ.symm
      exact z_iret (v := nI (commits f 1 ((rN f) + 1 - 1))) hx hb hr hS (by unfold aCount; rw [if_pos (by decide), nI_clamp (by decide)]; rfl) (by omega) (by omega) dX4_count_122
    · refine lv_tableIn (off := 122) (tgt := 123) hx hb dX4_count_1 (by decide) (by decide) (by decide) (by decide) ?_
      refine lv_aload_n hx hb dX4_count_123 rfl (lv_at hl 0 rfl) ?_
      refine va_get (D := D) (ci := 4) (v := .ref sa) (C := RX4) (T := TX4) (N := 14) hx hb hts in_X4 hown hK hP 0 rfl rfl 0 (by decide) (hts _ q1329) (fun _ h9 => h9) rfl dX4_count_124 ?_
      refine lv_iconst (v := nI (4)) hx hb dX4_count_127 (by decide) ?_
      refine lv_iload_n hx hb dX4_count_128 rfl (lv_at hl 1 rfl) ?_
      refine lv_iadd hx hb dX4_count_129 ?_
      refine lv_tope (y := nI (9)) (by decide) ?_
      refine lv_iconst (v := nI (5)) hx hb dX4_count_130 (by decide) ?_
      refine lv_isub hx hb dX4_count_131 ?_
      refine lv_tope (y := nI (4)) (by decide) ?_
      refine va_iald hx hb hK hP 1 0 rfl rfl (vp_in_nI (by omega) (by omega)) dX4_count_132 ?_
      refine lv_tope (y := f 4) (by rw [nI_clamp (by omega)]) ?_
      exact z_iret (v := f 4) hx hb hr hS (by unfold aCount; rw [if_pos (by decide), nI_clamp (by decide)]; rfl) (by omega) (by omega) dX4_count_133
    · refine lv_tableIn (off := 122) (tgt := 123) hx hb dX4_count_1 (by decide) (by decide) (by decide) (by decide) ?_
      refine lv_aload_n hx hb dX4_count_123 rfl (lv_at hl 0 rfl) ?_
      refine va_get (D := D) (ci := 4) (v := .ref sa) (C := RX4) (T := TX4) (N := 14) hx hb hts in_X4 hown hK hP 0 rfl rfl 0 (by decide) (hts _ q1329) (fun _ h9 => h9) rfl dX4_count_124 ?_
      refine lv_iconst (v := nI (4)) hx hb dX4_count_127 (by decide) ?_
      refine lv_iload_n hx hb dX4_count_128 rfl (lv_at hl 1 rfl) ?_
      refine lv_iadd hx hb dX4_count_129 ?_
      refine lv_tope (y := nI (10)) (by decide) ?_
      refine lv_iconst (v := nI (5)) hx hb dX4_count_130 (by decide) ?_
      refine lv_isub hx hb dX4_count_131 ?_
      refine lv_tope (y := nI (5)) (by decide) ?_
      refine va_iald hx hb hK hP 1 0 rfl rfl (vp_in_nI (by omega) (by omega)) dX4_count_132 ?_
      refine lv_tope (y := f 5) (by rw [nI_clamp (by omega)]) ?_
      exact z_iret (v := f 5) hx hb hr hS (by unfold aCount; rw [if_pos (by decide), nI_clamp (by decide)]; rfl) (by omega) (by omega) dX4_count_133
    · refine lv_tableIn (off := 122) (tgt := 123) hx hb dX4_count_1 (by decide) (by decide) (by decide) (by decide) ?_
      refine lv_aload_n hx hb dX4_count_123 rfl (lv_at hl 0 rfl) ?_
      refine va_get (D := D) (ci := 4) (v := .ref sa) (C := RX4) (T := TX4) (N := 14) hx hb hts in_X4 hown hK hP 0 rfl rfl 0 (by decide) (hts _ q1329) (fun _ h9 => h9) rfl dX4_count_124 ?_
      refine lv_iconst (v := nI (4)) hx hb dX4_count_127 (by decide) ?_
      refine lv_iload_n hx hb dX4_count_128 rfl (lv_at hl 1 rfl) ?_
      refine lv_iadd hx hb dX4_count_129 ?_
      refine lv_tope (y := nI (11)) (by decide) ?_
      refine lv_iconst (v := nI (5)) hx hb dX4_count_130 (by decide) ?_
      refine lv_isub hx hb dX4_count_131 ?_
      refine lv_tope (y := nI (6)) (by decide) ?_
      refine va_iald hx hb hK hP 1 0 rfl rfl (vp_in_nI (by omega) (by omega)) dX4_count_132 ?_
      refine lv_tope (y := f 6) (by rw [nI_clamp (by omega)]) ?_
      exact z_iret (v := f 6) hx hb hr hS (by unfold aCount; rw [if_pos (by decide), nI_clamp (by decide)]; rfl) (by omega) (by omega) dX4_count_133
    · refine lv_tableIn (off := 133) (tgt := 134) hx hb dX4_count_1 (by decide) (by decide) (by decide) (by decide) ?_
      refine lv_aload_n hx hb dX4_count_134 rfl (lv_at hl 0 rfl) ?_
      refine va_get (D := D) (ci := 4) (v := .int v3) (C := RX4) (T := TX4) (N := 14) hx hb hts in_X4 hown hK hP 0 rfl rfl 3 (by decide) (hts _ q1332) (fun _ h9 => h9) rfl dX4_count_135 ?_
      exact z_iret (v := v3) hx hb hr hS (by unfold aCount; rw [if_pos (by decide), nI_clamp (by decide)]; rfl) (by omega) (by omega) dX4_count_138
    · refine lv_tableIn (off := 138) (tgt := 139) hx hb dX4_count_1 (by decide) (by decide) (by decide) (by decide) ?_
      refine lv_aload_n hx hb dX4_count_139 rfl (lv_at hl 0 rfl) ?_
      refine va_get (D := D) (ci := 4) (v := .int v6) (C := RX4) (T := TX4) (N := 14) hx hb hts in_X4 hown hK hP 0 rfl rfl 6 (by decide) (hts _ q1335) (fun _ h9 => h9) rfl dX4_count_140 ?_
      exact z_iret (v := v6) hx hb hr hS (by unfold aCount; rw [if_pos (by decide), nI_clamp (by decide)]; rfl) (by omega) (by omega) dX4_count_143
    · refine lv_tableIn (off := 156) (tgt := 157) hx hb dX4_count_1 (by decide) (by decide) (by decide) (by decide) ?_
      refine lv_ldc (v := (-1000001)) hx hb hown (hts _ q1382) dX4_count_157 ?_
      exact z_iret (v := (-1000001)) hx hb hr hS (by unfold aCount; rw [if_pos (by decide), nI_clamp (by decide)]; rfl) (by omega) (by omega) dX4_count_159
    · refine lv_tableIn (off := 156) (tgt := 157) hx hb dX4_count_1 (by decide) (by decide) (by decide) (by decide) ?_
      refine lv_ldc (v := (-1000001)) hx hb hown (hts _ q1382) dX4_count_157 ?_
      exact z_iret (v := (-1000001)) hx hb hr hS (by unfold aCount; rw [if_pos (by decide), nI_clamp (by decide)]; rfl) (by omega) (by omega) dX4_count_159
    · refine lv_tableIn (off := 156) (tgt := 157) hx hb dX4_count_1 (by decide) (by decide) (by decide) (by decide) ?_
      refine lv_ldc (v := (-1000001)) hx hb hown (hts _ q1382) dX4_count_157 ?_
      exact z_iret (v := (-1000001)) hx hb hr hS (by unfold aCount; rw [if_pos (by decide), nI_clamp (by decide)]; rfl) (by omega) (by omega) dX4_count_159
    · refine lv_tableIn (off := 156) (tgt := 157) hx hb dX4_count_1 (by decide) (by decide) (by decide) (by decide) ?_
      refine lv_ldc (v := (-1000001)) hx hb hown (hts _ q1382) dX4_count_157 ?_
      exact z_iret (v := (-1000001)) hx hb hr hS (by unfold aCount; rw [if_pos (by decide), nI_clamp (by decide)]; rfl) (by omega) (by omega) dX4_count_159
    · refine lv_tableIn (off := 156) (tgt := 157) hx hb dX4_count_1 (by decide) (by decide) (by decide) (by decide) ?_
      refine lv_ldc (v := (-1000001)) hx hb hown (hts _ q1382) dX4_count_157 ?_
      exact z_iret (v := (-1000001)) hx hb hr hS (by unfold aCount; rw [if_pos (by decide), nI_clamp (by decide)]; rfl) (by omega) (by omega) dX4_count_159
    · refine lv_tableIn (off := 156) (tgt := 157) hx hb dX4_count_1 (by decide) (by decide) (by decide) (by decide) ?_
      refine lv_ldc (v := (-1000001)) hx hb hown (hts _ q1382) dX4_count_157 ?_
      exact z_iret (v := (-1000001)) hx hb hr hS (by unfold aCount; rw [if_pos (by decide), nI_clamp (by decide)]; rfl) (by omega) (by omega) dX4_count_159
    · refine lv_tableIn (off := 156) (tgt := 157) hx hb dX4_count_1 (by decide) (by decide) (by decide) (by decide) ?_
      refine lv_ldc (v := (-1000001)) hx hb hown (hts _ q1382) dX4_count_157 ?_
      exact z_iret (v := (-1000001)) hx hb hr hS (by unfold aCount; rw [if_pos (by decide), nI_clamp (by decide)]; rfl) (by omega) (by omega) dX4_count_159
    · refine lv_tableIn (off := 156) (tgt := 157) hx hb dX4_count_1 (by decide) (by decide) (by decide) (by decide) ?_
      refine lv_ldc (v := (-1000001)) hx hb hown (hts _ q1382) dX4_count_157 ?_
      exact z_iret (v := (-1000001)) hx hb hr hS (by unfold aCount; rw [if_pos (by decide), nI_clamp (by decide)]; rfl) (by omega) (by omega) dX4_count_159
    · refine lv_tableIn (off := 156) (tgt := 157) hx hb dX4_count_1 (by decide) (by decide) (by decide) (by decide) ?_
      refine lv_ldc (v := (-1000001)) hx hb hown (hts _ q1382) dX4_count_157 ?_
      exact z_iret (v := (-1000001)) hx hb hr hS (by unfold aCount; rw [if_pos (by decide), nI_clamp (by decide)]; rfl) (by omega) (by omega) dX4_count_159
    · refine lv_tableIn (off := 156) (tgt := 157) hx hb dX4_count_1 (by decide) (by decide) (by decide) (by decide) ?_
      refine lv_ldc (v := (-1000001)) hx hb hown (hts _ q1382) dX4_count_157 ?_
      exact z_iret (v := (-1000001)) hx hb hr hS (by unfold aCount; rw [if_pos (by decide), nI_clamp (by decide)]; rfl) (by omega) (by omega) dX4_count_159
    · refine lv_tableIn (off := 143) (tgt := 144) hx hb dX4_count_1 (by decide) (by decide) (by decide) (by decide) ?_
      refine lv_aload_n hx hb dX4_count_144 rfl (lv_at hl 0 rfl) ?_
      refine va_get (D := D) (ci := 4) (v := .ref sa) (C := RX4) (T := TX4) (N := 14) hx hb hts in_X4 hown hK hP 0 rfl rfl 0 (by decide) (hts _ q1329) (fun _ h9 => h9) rfl dX4_count_145 ?_
      refine lv_bipush (v := nI (7)) hx hb dX4_count_148 (by decide) ?_
      refine lv_iload_n hx hb dX4_count_150 rfl (lv_at hl 1 rfl) ?_
      refine lv_iadd hx hb dX4_count_151 ?_
      refine lv_tope (y := nI (27)) (by decide) ?_
      refine lv_bipush (v := nI (20)) hx hb dX4_count_152 (by decide) ?_
      refine lv_isub hx hb dX4_count_154 ?_
      refine lv_tope (y := nI (7)) (by decide) ?_
      refine va_iald hx hb hK hP 1 0 rfl rfl (vp_in_nI (by omega) (by omega)) dX4_count_155 ?_
      refine lv_tope (y := f 7) (by rw [nI_clamp (by omega)]) ?_
      exact z_iret (v := f 7) hx hb hr hS (by unfold aCount; rw [if_pos (by decide), nI_clamp (by decide)]; rfl) (by omega) (by omega) dX4_count_156
    · refine lv_tableIn (off := 143) (tgt := 144) hx hb dX4_count_1 (by decide) (by decide) (by decide) (by decide) ?_
      refine lv_aload_n hx hb dX4_count_144 rfl (lv_at hl 0 rfl) ?_
      refine va_get (D := D) (ci := 4) (v := .ref sa) (C := RX4) (T := TX4) (N := 14) hx hb hts in_X4 hown hK hP 0 rfl rfl 0 (by decide) (hts _ q1329) (fun _ h9 => h9) rfl dX4_count_145 ?_
      refine lv_bipush (v := nI (7)) hx hb dX4_count_148 (by decide) ?_
      refine lv_iload_n hx hb dX4_count_150 rfl (lv_at hl 1 rfl) ?_
      refine lv_iadd hx hb dX4_count_151 ?_
      refine lv_tope (y := nI (28)) (by decide) ?_
      refine lv_bipush (v := nI (20)) hx hb dX4_count_152 (by decide) ?_
      refine lv_isub hx hb dX4_count_154 ?_
      refine lv_tope (y := nI (8)) (by decide) ?_
      refine va_iald hx hb hK hP 1 0 rfl rfl (vp_in_nI (by omega) (by omega)) dX4_count_155 ?_
      refine lv_tope (y := f 8) (by rw [nI_clamp (by omega)]) ?_
      exact z_iret (v := f 8) hx hb hr hS (by unfold aCount; rw [if_pos (by decide), nI_clamp (by decide)]; rfl) (by omega) (by omega) dX4_count_156

set_option maxHeartbeats 4000000 in
set_option maxRecDepth 100000 in
theorem mX4_init (l : Launch) (D : va_G) (dA : Nat → ClassId) (ad : Nat → Nat) (A : Nat → Prop) (sz : Nat) (m0 : Nat) (hA : ∀ q, sz ≤ q → A q) (hD : va_D A [(m0, .inr (4, [.null, .null, .null, .int 0, .int 0, .null, .int 0, .int 0, .int 0, .int 0, .int 0, .int 0, .int 0, .null]))]) : Met l yX4_init (ws_ yX4_init cX4_init 1 none) ({ frames := 1, cells := 5, slots := 4371, locals := 40 }) (va_Pc [.ref m0] (zP D dA ad A sz (fun H => va_P D vwCl [(m0, .inr (4, [.null, .null, .null, .int 0, .int 0, .null, .int 0, .int 0, .int 0, .int 0, .int 0, .int 0, .int 0, .null]))] H))) (zQv (fun H => ∃ sa pa ha xa ta : Nat, va_P D vwCl [(m0, .inr (4, [.ref sa, .ref pa, .ref ha, .int 0, .int 0, .ref xa, .int 0, .int 0, .int 0, .int 0, .int 0, .int 0, .int 0, .ref ta])), (sa, .inl (dA 0, 718, .inl f0)), (pa, .inl (dA 0, 2872, .inl (fun _ => 0))), (ha, .inl (dA 0, 718, .inl (fun _ => 0))), (xa, .inl (dA 0, 60, .inl (fun _ => 0))), (ta, .inl (dA 0, 3, .inl (fun _ => 0)))] H ∧ va_D A [(m0, .inr (4, [.ref sa, .ref pa, .ref ha, .int 0, .int 0, .ref xa, .int 0, .int 0, .int 0, .int 0, .int 0, .int 0, .int 0, .ref ta])), (sa, .inl (dA 0, 718, .inl f0)), (pa, .inl (dA 0, 2872, .inl (fun _ => 0))), (ha, .inl (dA 0, 718, .inl (fun _ => 0))), (xa, .inl (dA 0, 60, .inl (fun _ => 0))), (ta, .inl (dA 0, 3, .inl (fun _ => 0)))]) A) (5) (4371) A := by
  refine Met.ofW (cc := cX4_init) (maxL := 1) (ret := none) (by decide) rfl ?_
  intro p e s m args below meth c s₁ B hml hv
  obtain ⟨rfl, hsz, hC, hP⟩ := hv
  have hx := B.exec
  have hb := B.bytes
  have hr := B.returns
  have hts := atoms_spec (ws := ws_ yX4_init cX4_init 1 none) B.pre
  have hts : ∀ w ∈ lw_all, w.before _ s = true := fun w h => hts w (List.mem_cons_of_mem _ h)
  have hown : s.vm.findClass RX4 = some m.cls := findClass_of_methodNamed B.named
  have hlocks := B.notSynchronized
  have hin : meth.name = "<init>" := (name_of_methodNamed B.named B.method).1
  subst hsz
  have hK := hC.K
  have hS : va_S A s.heap s.heap [] := va_S.rf
  have hP : va_P D vwCl [(m0, .inr (4, [.null, .null, .null, .int 0, .int 0, .null, .int 0, .int 0, .int 0, .int 0, .int 0, .int 0, .int 0, .null]))] s.heap := hP
  have hl := lv_entry ([.ref m0]) (n := 1) (Nat.le_of_ble_eq_true rfl)
  rw [lg_entry_eq]
  generalize (lg_sl ([.ref m0]) ++ List.replicate (1 - (lg_sl ([.ref m0])).length) Slot.unset).toArray = ls at hl ⊢
  have hl : lv_has ls 1 [(0, .ref m0)] := hl
  refine lv_aload_n hx hb dX4_init_0 rfl (lv_at hl 0 rfl) ?_
  refine W.objInit hx hb hown (hts _ q1328) (hts _ q92) (hts _ q93) rfl (by rw [hml]; exact hl.1) rfl dX4_init_1 (Nat.le_of_ble_eq_true rfl) (Nat.le_of_ble_eq_true rfl) ?_
  refine W.eq (g2 := F0 m 4 ls []) rfl ?_
  refine lv_aload_n hx hb dX4_init_4 rfl (lv_at hl 0 rfl) ?_
  refine lv_sipush (v := nI (718)) hx hb dX4_init_5 (by decide) ?_
  refine z_newi hx hb (hts _ q137) hK hP hD hS hA (N := 718) (by decide) (by decide) (by decide) dX4_init_8 (fun sa H hP hD hS hz9 hk9 hq9 => ?_)
  have hP : va_P D vwCl [(m0, .inr (4, [.null, .null, .null, .int 0, .int 0, .null, .int 0, .int 0, .int 0, .int 0, .int 0, .int 0, .int 0, .null])), (sa, .inl (dA 0, 718, .inl (fun _ => 0)))] H := hP
  have hD : va_D A [(m0, .inr (4, [.null, .null, .null, .int 0, .int 0, .null, .int 0, .int 0, .int 0, .int 0, .int 0, .int 0, .int 0, .null])), (sa, .inl (dA 0, 718, .inl (fun _ => 0)))] := hD
  refine va_putF (D := D) (ci := 4) (v := .ref sa) (ty := .array .int) (C := RX4) (T := TX4) (N := 14) hx hb hts in_X4 tyX4 tyX4_ok nmX4 hown hK hP hD hS 0 rfl rfl 0 (by decide) (hts _ q1329) (fun _ h9 => h9) rfl hin (by rfl) (by decide +kernel) rfl rfl (Nat.le_of_ble_eq_true rfl) dX4_init_10 (fun H locs hP hD hS => ?_)
  have hP : va_P D vwCl [(m0, .inr (4, [.ref sa, .null, .null, .int 0, .int 0, .null, .int 0, .int 0, .int 0, .int 0, .int 0, .int 0, .int 0, .null])), (sa, .inl (dA 0, 718, .inl (fun _ => 0)))] H := hP
  have hD : va_D A [(m0, .inr (4, [.ref sa, .null, .null, .int 0, .int 0, .null, .int 0, .int 0, .int 0, .int 0, .int 0, .int 0, .int 0, .null])), (sa, .inl (dA 0, 718, .inl (fun _ => 0)))] := hD
  refine lv_aload_n hx hb dX4_init_13 rfl (lv_at hl 0 rfl) ?_
  refine lv_sipush (v := nI (2872)) hx hb dX4_init_14 (by decide) ?_
  refine z_newi hx hb (hts _ q137) hK hP hD hS hA (N := 2872) (by decide) (by decide) (by decide) dX4_init_17 (fun pa H hP hD hS hz9 hk9 hq9 => ?_)
  have hP : va_P D vwCl [(m0, .inr (4, [.ref sa, .null, .null, .int 0, .int 0, .null, .int 0, .int 0, .int 0, .int 0, .int 0, .int 0, .int 0, .null])), (sa, .inl (dA 0, 718, .inl (fun _ => 0))), (pa, .inl (dA 0, 2872, .inl (fun _ => 0)))] H := hP
  have hD : va_D A [(m0, .inr (4, [.ref sa, .null, .null, .int 0, .int 0, .null, .int 0, .int 0, .int 0, .int 0, .int 0, .int 0, .int 0, .null])), (sa, .inl (dA 0, 718, .inl (fun _ => 0))), (pa, .inl (dA 0, 2872, .inl (fun _ => 0)))] := hD
  refine va_putF (D := D) (ci := 4) (v := .ref pa) (ty := .array .int) (C := RX4) (T := TX4) (N := 14) hx hb hts in_X4 tyX4 tyX4_ok nmX4 hown hK hP hD hS 0 rfl rfl 1 (by decide) (hts _ q1330) (fun _ h9 => h9) rfl hin (by rfl) (by decide +kernel) rfl rfl (Nat.le_of_ble_eq_true rfl) dX4_init_19 (fun H locs hP hD hS => ?_)
  have hP : va_P D vwCl [(m0, .inr (4, [.ref sa, .ref pa, .null, .int 0, .int 0, .null, .int 0, .int 0, .int 0, .int 0, .int 0, .int 0, .int 0, .null])), (sa, .inl (dA 0, 718, .inl (fun _ => 0))), (pa, .inl (dA 0, 2872, .inl (fun _ => 0)))] H := hP
  have hD : va_D A [(m0, .inr (4, [.ref sa, .ref pa, .null, .int 0, .int 0, .null, .int 0, .int 0, .int 0, .int 0, .int 0, .int 0, .int 0, .null])), (sa, .inl (dA 0, 718, .inl (fun _ => 0))), (pa, .inl (dA 0, 2872, .inl (fun _ => 0)))] := hD
  refine lv_aload_n hx hb dX4_init_22 rfl (lv_at hl 0 rfl) ?_
  refine lv_sipush (v := nI (718)) hx hb dX4_init_23 (by decide) ?_
  refine z_newi hx hb (hts _ q137) hK hP hD hS hA (N := 718) (by decide) (by decide) (by decide) dX4_init_26 (fun ha H hP hD hS hz9 hk9 hq9 => ?_)
  have hP : va_P D vwCl [(m0, .inr (4, [.ref sa, .ref pa, .null, .int 0, .int 0, .null, .int 0, .int 0, .int 0, .int 0, .int 0, .int 0, .int 0, .null])), (sa, .inl (dA 0, 718, .inl (fun _ => 0))), (pa, .inl (dA 0, 2872, .inl (fun _ => 0))), (ha, .inl (dA 0, 718, .inl (fun _ => 0)))] H := hP
  have hD : va_D A [(m0, .inr (4, [.ref sa, .ref pa, .null, .int 0, .int 0, .null, .int 0, .int 0, .int 0, .int 0, .int 0, .int 0, .int 0, .null])), (sa, .inl (dA 0, 718, .inl (fun _ => 0))), (pa, .inl (dA 0, 2872, .inl (fun _ => 0))), (ha, .inl (dA 0, 718, .inl (fun _ => 0)))] := hD
  refine va_putF (D := D) (ci := 4) (v := .ref ha) (ty := .array .int) (C := RX4) (T := TX4) (N := 14) hx hb hts in_X4 tyX4 tyX4_ok nmX4 hown hK hP hD hS 0 rfl rfl 2 (by decide) (hts _ q1331) (fun _ h9 => h9) rfl hin (by rfl) (by decide +kernel) rfl rfl (Nat.le_of_ble_eq_true rfl) dX4_init_28 (fun H locs hP hD hS => ?_)
  have hP : va_P D vwCl [(m0, .inr (4, [.ref sa, .ref pa, .ref ha, .int 0, .int 0, .null, .int 0, .int 0, .int 0, .int 0, .int 0, .int 0, .int 0, .null])), (sa, .inl (dA 0, 718, .inl (fun _ => 0))), (pa, .inl (dA 0, 2872, .inl (fun _ => 0))), (ha, .inl (dA 0, 718, .inl (fun _ => 0)))] H := hP
  have hD : va_D A [(m0, .inr (4, [.ref sa, .ref pa, .ref ha, .int 0, .int 0, .null, .int 0, .int 0, .int 0, .int 0, .int 0, .int 0, .int 0, .null])), (sa, .inl (dA 0, 718, .inl (fun _ => 0))), (pa, .inl (dA 0, 2872, .inl (fun _ => 0))), (ha, .inl (dA 0, 718, .inl (fun _ => 0)))] := hD
  refine lv_aload_n hx hb dX4_init_31 rfl (lv_at hl 0 rfl) ?_
  refine lv_bipush (v := nI (60)) hx hb dX4_init_32 (by decide) ?_
  refine z_newi hx hb (hts _ q137) hK hP hD hS hA (N := 60) (by decide) (by decide) (by decide) dX4_init_34 (fun xa H hP hD hS hz9 hk9 hq9 => ?_)
  have hP : va_P D vwCl [(m0, .inr (4, [.ref sa, .ref pa, .ref ha, .int 0, .int 0, .null, .int 0, .int 0, .int 0, .int 0, .int 0, .int 0, .int 0, .null])), (sa, .inl (dA 0, 718, .inl (fun _ => 0))), (pa, .inl (dA 0, 2872, .inl (fun _ => 0))), (ha, .inl (dA 0, 718, .inl (fun _ => 0))), (xa, .inl (dA 0, 60, .inl (fun _ => 0)))] H := hP
  have hD : va_D A [(m0, .inr (4, [.ref sa, .ref pa, .ref ha, .int 0, .int 0, .null, .int 0, .int 0, .int 0, .int 0, .int 0, .int 0, .int 0, .null])), (sa, .inl (dA 0, 718, .inl (fun _ => 0))), (pa, .inl (dA 0, 2872, .inl (fun _ => 0))), (ha, .inl (dA 0, 718, .inl (fun _ => 0))), (xa, .inl (dA 0, 60, .inl (fun _ => 0)))] := hD
  refine va_putF (D := D) (ci := 4) (v := .ref xa) (ty := .array .int) (C := RX4) (T := TX4) (N := 14) hx hb hts in_X4 tyX4 tyX4_ok nmX4 hown hK hP hD hS 0 rfl rfl 5 (by decide) (hts _ q1334) (fun _ h9 => h9) rfl hin (by rfl) (by decide +kernel) rfl rfl (Nat.le_of_ble_eq_true rfl) dX4_init_36 (fun H locs hP hD hS => ?_)
  have hP : va_P D vwCl [(m0, .inr (4, [.ref sa, .ref pa, .ref ha, .int 0, .int 0, .ref xa, .int 0, .int 0, .int 0, .int 0, .int 0, .int 0, .int 0, .null])), (sa, .inl (dA 0, 718, .inl (fun _ => 0))), (pa, .inl (dA 0, 2872, .inl (fun _ => 0))), (ha, .inl (dA 0, 718, .inl (fun _ => 0))), (xa, .inl (dA 0, 60, .inl (fun _ => 0)))] H := hP
  have hD : va_D A [(m0, .inr (4, [.ref sa, .ref pa, .ref ha, .int 0, .int 0, .ref xa, .int 0, .int 0, .int 0, .int 0, .int 0, .int 0, .int 0, .null])), (sa, .inl (dA 0, 718, .inl (fun _ => 0))), (pa, .inl (dA 0, 2872, .inl (fun _ => 0))), (ha, .inl (dA 0, 718, .inl (fun _ => 0))), (xa, .inl (dA 0, 60, .inl (fun _ => 0)))] := hD
  refine lv_aload_n hx hb dX4_init_39 rfl (lv_at hl 0 rfl) ?_
  refine lv_iconst (v := nI (3)) hx hb dX4_init_40 (by decide) ?_
  refine z_newi hx hb (hts _ q137) hK hP hD hS hA (N := 3) (by decide) (by decide) (by decide) dX4_init_41 (fun ta H hP hD hS hz9 hk9 hq9 => ?_)
  have hP : va_P D vwCl [(m0, .inr (4, [.ref sa, .ref pa, .ref ha, .int 0, .int 0, .ref xa, .int 0, .int 0, .int 0, .int 0, .int 0, .int 0, .int 0, .null])), (sa, .inl (dA 0, 718, .inl (fun _ => 0))), (pa, .inl (dA 0, 2872, .inl (fun _ => 0))), (ha, .inl (dA 0, 718, .inl (fun _ => 0))), (xa, .inl (dA 0, 60, .inl (fun _ => 0))), (ta, .inl (dA 0, 3, .inl (fun _ => 0)))] H := hP
  have hD : va_D A [(m0, .inr (4, [.ref sa, .ref pa, .ref ha, .int 0, .int 0, .ref xa, .int 0, .int 0, .int 0, .int 0, .int 0, .int 0, .int 0, .null])), (sa, .inl (dA 0, 718, .inl (fun _ => 0))), (pa, .inl (dA 0, 2872, .inl (fun _ => 0))), (ha, .inl (dA 0, 718, .inl (fun _ => 0))), (xa, .inl (dA 0, 60, .inl (fun _ => 0))), (ta, .inl (dA 0, 3, .inl (fun _ => 0)))] := hD
  refine va_putF (D := D) (ci := 4) (v := .ref ta) (ty := .array .int) (C := RX4) (T := TX4) (N := 14) hx hb hts in_X4 tyX4 tyX4_ok nmX4 hown hK hP hD hS 0 rfl rfl 13 (by decide) (hts _ q1342) (fun _ h9 => h9) rfl hin (by rfl) (by decide +kernel) rfl rfl (Nat.le_of_ble_eq_true rfl) dX4_init_43 (fun H locs hP hD hS => ?_)
  have hP : va_P D vwCl [(m0, .inr (4, [.ref sa, .ref pa, .ref ha, .int 0, .int 0, .ref xa, .int 0, .int 0, .int 0, .int 0, .int 0, .int 0, .int 0, .ref ta])), (sa, .inl (dA 0, 718, .inl (fun _ => 0))), (pa, .inl (dA 0, 2872, .inl (fun _ => 0))), (ha, .inl (dA 0, 718, .inl (fun _ => 0))), (xa, .inl (dA 0, 60, .inl (fun _ => 0))), (ta, .inl (dA 0, 3, .inl (fun _ => 0)))] H := hP
  have hD : va_D A [(m0, .inr (4, [.ref sa, .ref pa, .ref ha, .int 0, .int 0, .ref xa, .int 0, .int 0, .int 0, .int 0, .int 0, .int 0, .int 0, .ref ta])), (sa, .inl (dA 0, 718, .inl (fun _ => 0))), (pa, .inl (dA 0, 2872, .inl (fun _ => 0))), (ha, .inl (dA 0, 718, .inl (fun _ => 0))), (xa, .inl (dA 0, 60, .inl (fun _ => 0))), (ta, .inl (dA 0, 3, .inl (fun _ => 0)))] := hD
  refine lv_aload_n hx hb dX4_init_46 rfl (lv_at hl 0 rfl) ?_
  refine va_get (D := D) (ci := 4) (v := .ref sa) (C := RX4) (T := TX4) (N := 14) hx hb hts in_X4 hown hK hP 0 rfl rfl 0 (by decide) (hts _ q1329) (fun _ h9 => h9) rfl dX4_init_47 ?_
  refine lv_iconst (v := nI (2)) hx hb dX4_init_50 (by decide) ?_
  refine lv_iconst (v := nI (1)) hx hb dX4_init_51 (by decide) ?_
  refine va_iast hx hb hK hP hD hS 1 0 rfl rfl (vp_in_nI (by omega) (by omega)) dX4_init_52 (fun H locs hP hD hS => ?_)
  rw [nI_clamp (by omega)] at hP hD
  have hP : va_P D vwCl [(m0, .inr (4, [.ref sa, .ref pa, .ref ha, .int 0, .int 0, .ref xa, .int 0, .int 0, .int 0, .int 0, .int 0, .int 0, .int 0, .ref ta])), (sa, .inl (dA 0, 718, .inl (upd (fun _ => 0) 2 (nI (1))))), (pa, .inl (dA 0, 2872, .inl (fun _ => 0))), (ha, .inl (dA 0, 718, .inl (fun _ => 0))), (xa, .inl (dA 0, 60, .inl (fun _ => 0))), (ta, .inl (dA 0, 3, .inl (fun _ => 0)))] H := hP
  have hD : va_D A [(m0, .inr (4, [.ref sa, .ref pa, .ref ha, .int 0, .int 0, .ref xa, .int 0, .int 0, .int 0, .int 0, .int 0, .int 0, .int 0, .ref ta])), (sa, .inl (dA 0, 718, .inl (upd (fun _ => 0) 2 (nI (1))))), (pa, .inl (dA 0, 2872, .inl (fun _ => 0))), (ha, .inl (dA 0, 718, .inl (fun _ => 0))), (xa, .inl (dA 0, 60, .inl (fun _ => 0))), (ta, .inl (dA 0, 3, .inl (fun _ => 0)))] := hD
  refine lv_aload_n hx hb dX4_init_53 rfl (lv_at hl 0 rfl) ?_
  refine va_get (D := D) (ci := 4) (v := .ref sa) (C := RX4) (T := TX4) (N := 14) hx hb hts in_X4 hown hK hP 0 rfl rfl 0 (by decide) (hts _ q1329) (fun _ h9 => h9) rfl dX4_init_54 ?_
  refine lv_bipush (v := nI (7)) hx hb dX4_init_57 (by decide) ?_
  refine lv_iconst (v := nI (4)) hx hb dX4_init_59 (by decide) ?_
  refine va_iast hx hb hK hP hD hS 1 0 rfl rfl (vp_in_nI (by omega) (by omega)) dX4_init_60 (fun H locs hP hD hS => ?_)
  rw [nI_clamp (by omega)] at hP hD
  have hP : va_P D vwCl [(m0, .inr (4, [.ref sa, .ref pa, .ref ha, .int 0, .int 0, .ref xa, .int 0, .int 0, .int 0, .int 0, .int 0, .int 0, .int 0, .ref ta])), (sa, .inl (dA 0, 718, .inl (upd (upd (fun _ => 0) 2 (nI (1))) 7 (nI (4))))), (pa, .inl (dA 0, 2872, .inl (fun _ => 0))), (ha, .inl (dA 0, 718, .inl (fun _ => 0))), (xa, .inl (dA 0, 60, .inl (fun _ => 0))), (ta, .inl (dA 0, 3, .inl (fun _ => 0)))] H := hP
  have hD : va_D A [(m0, .inr (4, [.ref sa, .ref pa, .ref ha, .int 0, .int 0, .ref xa, .int 0, .int 0, .int 0, .int 0, .int 0, .int 0, .int 0, .ref ta])), (sa, .inl (dA 0, 718, .inl (upd (upd (fun _ => 0) 2 (nI (1))) 7 (nI (4))))), (pa, .inl (dA 0, 2872, .inl (fun _ => 0))), (ha, .inl (dA 0, 718, .inl (fun _ => 0))), (xa, .inl (dA 0, 60, .inl (fun _ => 0))), (ta, .inl (dA 0, 3, .inl (fun _ => 0)))] := hD
  refine lv_aload_n hx hb dX4_init_61 rfl (lv_at hl 0 rfl) ?_
  refine va_get (D := D) (ci := 4) (v := .ref sa) (C := RX4) (T := TX4) (N := 14) hx hb hts in_X4 hown hK hP 0 rfl rfl 0 (by decide) (hts _ q1329) (fun _ h9 => h9) rfl dX4_init_62 ?_
  refine lv_bipush (v := nI (8)) hx hb dX4_init_65 (by decide) ?_
  refine lv_iconst (v := nI (2)) hx hb dX4_init_67 (by decide) ?_
  refine va_iast hx hb hK hP hD hS 1 0 rfl rfl (vp_in_nI (by omega) (by omega)) dX4_init_68 (fun H locs hP hD hS => ?_)
  rw [nI_clamp (by omega)] at hP hD
  have hP : va_P D vwCl [(m0, .inr (4, [.ref sa, .ref pa, .ref ha, .int 0, .int 0, .ref xa, .int 0, .int 0, .int 0, .int 0, .int 0, .int 0, .int 0, .ref ta])), (sa, .inl (dA 0, 718, .inl (upd (upd (upd (fun _ => 0) 2 (nI (1))) 7 (nI (4))) 8 (nI (2))))), (pa, .inl (dA 0, 2872, .inl (fun _ => 0))), (ha, .inl (dA 0, 718, .inl (fun _ => 0))), (xa, .inl (dA 0, 60, .inl (fun _ => 0))), (ta, .inl (dA 0, 3, .inl (fun _ => 0)))] H := hP
  have hD : va_D A [(m0, .inr (4, [.ref sa, .ref pa, .ref ha, .int 0, .int 0, .ref xa, .int 0, .int 0, .int 0, .int 0, .int 0, .int 0, .int 0, .ref ta])), (sa, .inl (dA 0, 718, .inl (upd (upd (upd (fun _ => 0) 2 (nI (1))) 7 (nI (4))) 8 (nI (2))))), (pa, .inl (dA 0, 2872, .inl (fun _ => 0))), (ha, .inl (dA 0, 718, .inl (fun _ => 0))), (xa, .inl (dA 0, 60, .inl (fun _ => 0))), (ta, .inl (dA 0, 3, .inl (fun _ => 0)))] := hD
  exact z_vret hx hb hr hS (⟨sa, pa, ha, xa, ta, hP, hD⟩) (by decide) (by decide) dX4_init_69

set_option maxHeartbeats 4000000 in
set_option maxRecDepth 100000 in
theorem mX4_isAt (l : Launch) (D : va_G) (dA : Nat → ClassId) (ad : Nat → Nat) (sz : Nat) (m0 : Nat) (sa : Nat) (pa : Nat) (ha : Nat) (xa : Nat) (ta : Nat) (v3 : Int32) (v4 : Int32) (v8 : Int32) (v9 : Int32) (v10 : Int32) (v11 : Int32) (v12 : Int32) (ty : Nat) (sp : Nat) (tx : Nat → Int32) (lo : Int32) (hi : Int32) (hty : ty ≤ 60) (hsp : sp ≤ ty) : Met l yX4_isAt (ws_ yX4_isAt cX4_isAt 3 (some .boolean)) ({ frames := 1, cells := 0, slots := 0, locals := 30 }) (va_Pc [.ref m0, .int lo, .int hi] (zP D dA ad (fun q => sz ≤ q) sz (fun H => va_P D vwCl [(m0, .inr (4, [.ref sa, .ref pa, .ref ha, .int v3, .int v4, .ref xa, .int (nI (ty)), .int (nI (sp)), .int v8, .int v9, .int v10, .int v11, .int v12, .ref ta])), (xa, .inl (dA 0, 60, .inl tx))] H))) (zQi (fun rz H => rz = bI (isAtP tx ty sp lo hi)) (fun q => sz ≤ q)) (0) (0) (fun q => sz ≤ q) := by
  refine Met.ofW (cc := cX4_isAt) (maxL := 3) (ret := (some .boolean)) (by decide) rfl ?_
  intro p e s m args below meth c s₁ B hml hv
  obtain ⟨rfl, hsz, hC, hP⟩ := hv
  have hx := B.exec
  have hb := B.bytes
  have hr := B.returns
  have hts := atoms_spec (ws := ws_ yX4_isAt cX4_isAt 3 (some .boolean)) B.pre
  have hts : ∀ w ∈ lw_all, w.before _ s = true := fun w h => hts w (List.mem_cons_of_mem _ h)
  have hown : s.vm.findClass RX4 = some m.cls := findClass_of_methodNamed B.named
  have hlocks := B.notSynchronized
  subst hsz
  have hK := hC.K
  have hA : ∀ q : Nat, s.heap.size ≤ q → s.heap.size ≤ q := fun _ h => h
  have hS : va_S (fun q => s.heap.size ≤ q) s.heap s.heap [] := va_S.rf
  have hP : va_P D vwCl [(m0, .inr (4, [.ref sa, .ref pa, .ref ha, .int v3, .int v4, .ref xa, .int (nI (ty)), .int (nI (sp)), .int v8, .int v9, .int v10, .int v11, .int v12, .ref ta])), (xa, .inl (dA 0, 60, .inl tx))] s.heap := hP
  have hl := lv_entry ([.ref m0, .int lo, .int hi]) (n := 3) (Nat.le_of_ble_eq_true rfl)
  rw [lg_entry_eq]
  generalize (lg_sl ([.ref m0, .int lo, .int hi]) ++ List.replicate (3 - (lg_sl ([.ref m0, .int lo, .int hi])).length) Slot.unset).toArray = ls at hl ⊢
  have hl : lv_has ls 3 [(0, .ref m0), (1, .int lo), (2, .int hi)] := hl
  refine lv_aload_n hx hb dX4_isAt_0 rfl (lv_at hl 0 rfl) ?_
  refine va_get (D := D) (ci := 4) (v := .int (nI (sp))) (C := RX4) (T := TX4) (N := 14) hx hb hts in_X4 hown hK hP 0 rfl rfl 7 (by decide) (hts _ q1336) (fun _ h9 => h9) rfl dX4_isAt_1 ?_
  refine lv_aload_n hx hb dX4_isAt_4 rfl (lv_at hl 0 rfl) ?_
  refine va_get (D := D) (ci := 4) (v := .int (nI (ty))) (C := RX4) (T := TX4) (N := 14) hx hb hts in_X4 hown hK hP 0 rfl rfl 6 (by decide) (hts _ q1335) (fun _ h9 => h9) rfl dX4_isAt_5 ?_
  refine lv_icmp_ge (tgt := 32) hx hb dX4_isAt_8 (by decide) (fun c_1 => ?_) (fun c_1 => ?_)
  · have c_1 := (nI_leI (by omega) (by omega)).1 c_1
    refine lv_iconst (v := nI (0)) hx hb dX4_isAt_32 (by decide) ?_
    exact z_zret (v := nI (0)) hx hb hr (by first | rfl | decide) hS (by first | exact (bI_f (fun q => absurd q.2 (by assumption))).symm | exact (bI_f (fun q => absurd q.1 (by omega))).symm) (by omega) (by omega) dX4_isAt_33
  · have c_1 := mt (nI_leI (by omega) (by omega)).2 c_1
    refine lv_aload_n hx hb dX4_isAt_11 rfl (lv_at hl 0 rfl) ?_
    refine va_get (D := D) (ci := 4) (v := .ref xa) (C := RX4) (T := TX4) (N := 14) hx hb hts in_X4 hown hK hP 0 rfl rfl 5 (by decide) (hts _ q1334) (fun _ h9 => h9) rfl dX4_isAt_12 ?_
    refine lv_aload_n hx hb dX4_isAt_15 rfl (lv_at hl 0 rfl) ?_
    refine va_get (D := D) (ci := 4) (v := .int (nI (sp))) (C := RX4) (T := TX4) (N := 14) hx hb hts in_X4 hown hK hP 0 rfl rfl 7 (by decide) (hts _ q1336) (fun _ h9 => h9) rfl dX4_isAt_16 ?_
    refine va_iald hx hb hK hP 1 0 rfl rfl (vp_in_nI (by omega) (by omega)) dX4_isAt_19 ?_
    refine lv_tope (y := tx sp) (by rw [nI_clamp (by omega)]) ?_
    refine lv_iload_n hx hb dX4_isAt_20 rfl (lv_at hl 1 rfl) ?_
    refine lv_iload_n hx hb dX4_isAt_21 rfl (lv_at hl 2 rfl) ?_
    refine z_cSi (As := [.int (tx sp), .int lo, .int hi]) (rest := []) ⟨hx, hb, hml, hown, hts⟩ (mX4_in l D dA ad s.heap.size (tx sp) lo hi) (va_cwS 3 hts (lw_S q1379 q1380 q67 q1381) rfl rfl rfl (by decide +kernel) ⟨Nat.le_of_ble_eq_true rfl, Nat.le_of_ble_eq_true rfl⟩) hC hS (fun _ h => hA _ (Nat.le_trans hS.1 h)) trivial rfl rfl hl.1 (Nat.le_of_ble_eq_true rfl) dX4_isAt_22 ⟨Nat.le_of_ble_eq_true rfl, Nat.le_of_ble_eq_true rfl⟩ (fun r_2 H locs hQ hF hS => ?_)
    have hP := va_P.ro hF hP
    obtain rfl : bI (lo ≤ (tx sp) ∧ (tx sp) ≤ hi) = r_2 := hQ.symm
    refine lv_if_eq (tgt := 32) hx hb dX4_isAt_25 (by decide) (fun c_3 => ?_) (fun c_3 => ?_)
    · have c_3 := bI_0.1 c_3
      refine lv_iconst (v := nI (0)) hx hb dX4_isAt_32 (by decide) ?_
      exact z_zret (v := nI (0)) hx hb hr (by first | rfl | decide) hS (by first | exact (bI_f (fun q => absurd q.2 (by assumption))).symm | exact (bI_f (fun q => absurd q.1 (by omega))).symm) (by omega) (by omega) dX4_isAt_33
    · have c_3 := bI_1.1 c_3
      refine lv_iconst (v := nI (1)) hx hb dX4_isAt_28 (by decide) ?_
      refine lv_goto (tgt := 33) hx hb dX4_isAt_29 (by decide) ?_
      exact z_zret (v := nI (1)) hx hb hr (by first | rfl | decide) hS ((bI_t ⟨by omega, by assumption⟩).symm) (by omega) (by omega) dX4_isAt_33

set_option maxHeartbeats 4000000 in
set_option maxRecDepth 100000 in
theorem mX4_sign (l : Launch) (D : va_G) (dA : Nat → ClassId) (ad : Nat → Nat) (A : Nat → Prop) (sz : Nat) (m0 : Nat) (sa : Nat) (pa : Nat) (ha : Nat) (xa : Nat) (ta : Nat) (v4 : Int32) (v8 : Int32) (v9 : Int32) (v10 : Int32) (v11 : Int32) (v12 : Int32) (f : Nat → Int32) (ps : Nat) (g : Nat → Int32) (h : Nat → Int32) (tx : Nat → Int32) (td : Nat → Int32) (ty : Nat) (sp : Nat) (c0 : Int32) (hA : ∀ q, sz ≤ q → A q) (hty : ty ≤ 60) (hsp : sp ≤ ty) (hD : va_D A [(m0, .inr (4, [.ref sa, .ref pa, .ref ha, .int (nI (ps)), .int v4, .ref xa, .int (nI (ty)), .int (nI (sp)), .int v8, .int v9, .int v10, .int v11, .int v12, .ref ta])), (sa, .inl (dA 0, 718, .inl f)), (pa, .inl (dA 0, 2872, .inl g)), (ha, .inl (dA 0, 718, .inl h)), (xa, .inl (dA 0, 60, .inl tx)), (ta, .inl (dA 0, 3, .inl td))]) : Met l yX4_sign (ws_ yX4_sign cX4_sign 3 (some .boolean)) ({ frames := 2, cells := 0, slots := 0, locals := 60 }) (va_Pc [.ref m0, .int c0] (zP D dA ad A sz (fun H => va_P D vwCl [(m0, .inr (4, [.ref sa, .ref pa, .ref ha, .int (nI (ps)), .int v4, .ref xa, .int (nI (ty)), .int (nI (sp)), .int v8, .int v9, .int v10, .int v11, .int v12, .ref ta])), (sa, .inl (dA 0, 718, .inl f)), (pa, .inl (dA 0, 2872, .inl g)), (ha, .inl (dA 0, 718, .inl h)), (xa, .inl (dA 0, 60, .inl tx)), (ta, .inl (dA 0, 3, .inl td))] H))) (zQi (fun rz H => rz = bI (isAtP tx ty sp c0 c0) ∧ va_P D vwCl [(m0, .inr (4, [.ref sa, .ref pa, .ref ha, .int (nI (ps)), .int v4, .ref xa, .int (nI (ty)), .int (nI (sgN tx ty sp c0)), .int v8, .int v9, .int v10, .int v11, .int v12, .ref ta])), (sa, .inl (dA 0, 718, .inl f)), (pa, .inl (dA 0, 2872, .inl g)), (ha, .inl (dA 0, 718, .inl h)), (xa, .inl (dA 0, 60, .inl tx)), (ta, .inl (dA 0, 3, .inl td))] H) A) (0) (0) A := by
  refine Met.ofW (cc := cX4_sign) (maxL := 3) (ret := (some .boolean)) (by decide) rfl ?_
  intro p e s m args below meth c s₁ B hml hv
  obtain ⟨rfl, hsz, hC, hP⟩ := hv
  have hx := B.exec
  have hb := B.bytes
  have hr := B.returns
  have hts := atoms_spec (ws := ws_ yX4_sign cX4_sign 3 (some .boolean)) B.pre
  have hts : ∀ w ∈ lw_all, w.before _ s = true := fun w h => hts w (List.mem_cons_of_mem _ h)
  have hown : s.vm.findClass RX4 = some m.cls := findClass_of_methodNamed B.named
  have hlocks := B.notSynchronized
  subst hsz
  have hK := hC.K
  have hS : va_S A s.heap s.heap [] := va_S.rf
  have hP : va_P D vwCl [(m0, .inr (4, [.ref sa, .ref pa, .ref ha, .int (nI (ps)), .int v4, .ref xa, .int (nI (ty)), .int (nI (sp)), .int v8, .int v9, .int v10, .int v11, .int v12, .ref ta])), (sa, .inl (dA 0, 718, .inl f)), (pa, .inl (dA 0, 2872, .inl g)), (ha, .inl (dA 0, 718, .inl h)), (xa, .inl (dA 0, 60, .inl tx)), (ta, .inl (dA 0, 3, .inl td))] s.heap := hP
  have hl := lv_entry ([.ref m0, .int c0]) (n := 3) (Nat.le_of_ble_eq_true rfl)
  rw [lg_entry_eq]
  generalize (lg_sl ([.ref m0, .int c0]) ++ List.replicate (3 - (lg_sl ([.ref m0, .int c0])).length) Slot.unset).toArray = ls at hl ⊢
  have hl : lv_has ls 3 [(0, .ref m0), (1, .int c0)] := hl
  refine lv_aload_n hx hb dX4_sign_0 rfl (lv_at hl 0 rfl) ?_
  refine lv_iload_n hx hb dX4_sign_1 rfl (lv_at hl 1 rfl) ?_
  refine lv_iload_n hx hb dX4_sign_2 rfl (lv_at hl 1 rfl) ?_
  refine z_cVi (As := [.int c0, .int c0]) (rest := []) ⟨hx, hb, hml, hown, hts⟩ (mX4_isAt l D dA ad s.heap.size m0 sa pa ha xa ta (nI (ps)) v4 v8 v9 v10 v11 v12 ty sp tx c0 c0 (by omega) (by omega)) (cwV 2 hts (lw_V q1583 q1585 qs49 q67 q1586) rfl rfl rfl (by decide +kernel) ⟨Nat.le_of_ble_eq_true rfl, Nat.le_of_ble_eq_true rfl⟩) hC hS (fun _ h => hA _ (Nat.le_trans hS.1 h)) (hP.sub (ws' := [(m0, .inr (4, [.ref sa, .ref pa, .ref ha, .int (nI (ps)), .int v4, .ref xa, .int (nI (ty)), .int (nI (sp)), .int v8, .int v9, .int v10, .int v11, .int v12, .ref ta])), (xa, .inl (dA 0, 60, .inl tx))]) [0, 4] rfl) (va_recv hK hP (ci := 4) (q0 := 0) rfl rfl) rfl rfl hl.1 (Nat.le_of_ble_eq_true rfl) dX4_sign_3 ⟨Nat.le_of_ble_eq_true rfl, Nat.le_of_ble_eq_true rfl⟩ (fun r_1 H locs hQ hF hS => ?_)
  have hP := va_P.ro hF hP
  obtain rfl : bI (isAtP tx ty sp c0 c0) = r_1 := hQ.symm
  refine lv_istore_n (lv' := [(2, .int (bI (isAtP tx ty sp c0 c0))), (0, .ref m0), (1, .int c0)]) hx hb dX4_sign_6 rfl hl (by decide) rfl (fun ls hl => ?_)
  refine lv_aload_n hx hb dX4_sign_7 rfl (lv_at hl 1 rfl) ?_
  refine lv_dup hx hb dX4_sign_8 rfl ?_
  refine va_get (D := D) (ci := 4) (v := .int (nI (sp))) (C := RX4) (T := TX4) (N := 14) hx hb hts in_X4 hown hK hP 0 rfl rfl 7 (by decide) (hts _ q1336) (fun _ h9 => h9) rfl dX4_sign_9 ?_
  refine lv_iload_n hx hb dX4_sign_12 rfl (lv_at hl 0 rfl) ?_
  refine lv_if_eq (tgt := 20) hx hb dX4_sign_13 (by decide) (fun c_2 => ?_) (fun c_2 => ?_)
  · have c_2 := bI_0.1 c_2
    refine lv_iconst (v := nI (0)) hx hb dX4_sign_20 (by decide) ?_
    refine lv_iadd hx hb dX4_sign_21 ?_
    refine lv_tope (y := nI (sp + 0)) (nI_add _ _) ?_
    refine va_put (D := D) (ci := 4) (v := .int (nI (sp + 0))) (ty := .int) (C := RX4) (T := TX4) (N := 14) hx hb hts in_X4 tyX4 tyX4_ok nmX4 hown hK hP hD hS 0 rfl rfl 7 (by decide) (hts _ q1336) (fun _ h9 => h9) rfl (by decide +kernel) rfl rfl (Nat.le_of_ble_eq_true rfl) dX4_sign_22 (fun H locs hP hD hS => ?_)
    have hP : va_P D vwCl [(m0, .inr (4, [.ref sa, .ref pa, .ref ha, .int (nI (ps)), .int v4, .ref xa, .int (nI (ty)), .int (nI (sp + 0)), .int v8, .int v9, .int v10, .int v11, .int v12, .ref ta])), (sa, .inl (dA 0, 718, .inl f)), (pa, .inl (dA 0, 2872, .inl g)), (ha, .inl (dA 0, 718, .inl h)), (xa, .inl (dA 0, 60, .inl tx)), (ta, .inl (dA 0, 3, .inl td))] H := hP
    have hD : va_D A [(m0, .inr (4, [.ref sa, .ref pa, .ref ha, .int (nI (ps)), .int v4, .ref xa, .int (nI (ty)), .int (nI (sp + 0)), .int v8, .int v9, .int v10, .int v11, .int v12, .ref ta])), (sa, .inl (dA 0, 718, .inl f)), (pa, .inl (dA 0, 2872, .inl g)), (ha, .inl (dA 0, 718, .inl h)), (xa, .inl (dA 0, 60, .inl tx)), (ta, .inl (dA 0, 3, .inl td))] := hD
    refine lv_iload_n hx hb dX4_sign_25 rfl (lv_at hl 0 rfl) ?_
    exact z_zret (v := bI (isAtP tx ty sp c0 c0)) hx hb hr (bI_nar) hS (by unfold sgN; first | (rw [if_pos c_2]; exact ⟨rfl, hP⟩) | (rw [if_neg c_2]; exact ⟨rfl, hP⟩)) (by omega) (by omega) dX4_sign_26
  · have c_2 := bI_1.1 c_2
    refine lv_iconst (v := nI (1)) hx hb dX4_sign_16 (by decide) ?_
    refine lv_goto (tgt := 21) hx hb dX4_sign_17 (by decide) ?_
    refine lv_iadd hx hb dX4_sign_21 ?_
    refine lv_tope (y := nI (sp + 1)) (nI_add _ _) ?_
    refine va_put (D := D) (ci := 4) (v := .int (nI (sp + 1))) (ty := .int) (C := RX4) (T := TX4) (N := 14) hx hb hts in_X4 tyX4 tyX4_ok nmX4 hown hK hP hD hS 0 rfl rfl 7 (by decide) (hts _ q1336) (fun _ h9 => h9) rfl (by decide +kernel) rfl rfl (Nat.le_of_ble_eq_true rfl) dX4_sign_22 (fun H locs hP hD hS => ?_)
    have hP : va_P D vwCl [(m0, .inr (4, [.ref sa, .ref pa, .ref ha, .int (nI (ps)), .int v4, .ref xa, .int (nI (ty)), .int (nI (sp + 1)), .int v8, .int v9, .int v10, .int v11, .int v12, .ref ta])), (sa, .inl (dA 0, 718, .inl f)), (pa, .inl (dA 0, 2872, .inl g)), (ha, .inl (dA 0, 718, .inl h)), (xa, .inl (dA 0, 60, .inl tx)), (ta, .inl (dA 0, 3, .inl td))] H := hP
    have hD : va_D A [(m0, .inr (4, [.ref sa, .ref pa, .ref ha, .int (nI (ps)), .int v4, .ref xa, .int (nI (ty)), .int (nI (sp + 1)), .int v8, .int v9, .int v10, .int v11, .int v12, .ref ta])), (sa, .inl (dA 0, 718, .inl f)), (pa, .inl (dA 0, 2872, .inl g)), (ha, .inl (dA 0, 718, .inl h)), (xa, .inl (dA 0, 60, .inl tx)), (ta, .inl (dA 0, 3, .inl td))] := hD
    refine lv_iload_n hx hb dX4_sign_25 rfl (lv_at hl 0 rfl) ?_
    exact z_zret (v := bI (isAtP tx ty sp c0 c0)) hx hb hr (bI_nar) hS (by unfold sgN; first | (rw [if_pos c_2]; exact ⟨rfl, hP⟩) | (rw [if_neg c_2]; exact ⟨rfl, hP⟩)) (by omega) (by omega) dX4_sign_26

set_option maxHeartbeats 4000000 in
set_option maxRecDepth 100000 in
theorem mX4_number (l : Launch) (D : va_G) (dA : Nat → ClassId) (ad : Nat → Nat) (A : Nat → Prop) (sz : Nat) (m0 : Nat) (sa : Nat) (pa : Nat) (ha : Nat) (xa : Nat) (ta : Nat) (v4 : Int32) (v8 : Int32) (v9 : Int32) (v10 : Int32) (v11 : Int32) (v12 : Int32) (f : Nat → Int32) (ps : Nat) (g : Nat → Int32) (h : Nat → Int32) (tx : Nat → Int32) (td : Nat → Int32) (ty : Nat) (sp : Nat) (w : Nat) (hA : ∀ q, sz ≤ q → A q) (hty : ty ≤ 60) (hsp : sp ≤ ty) (hw : w < 3) (hD : va_D A [(m0, .inr (4, [.ref sa, .ref pa, .ref ha, .int (nI (ps)), .int v4, .ref xa, .int (nI (ty)), .int (nI (sp)), .int v8, .int v9, .int v10, .int v11, .int v12, .ref ta])), (sa, .inl (dA 0, 718, .inl f)), (pa, .inl (dA 0, 2872, .inl g)), (ha, .inl (dA 0, 718, .inl h)), (xa, .inl (dA 0, 60, .inl tx)), (ta, .inl (dA 0, 3, .inl td))]) : Met l yX4_number (ws_ yX4_number cX4_number 3 (some .boolean)) ({ frames := 2, cells := 0, slots := 0, locals := 60 }) (va_Pc [.ref m0, .int (nI (w))] (zP D dA ad A sz (fun H => va_P D vwCl [(m0, .inr (4, [.ref sa, .ref pa, .ref ha, .int (nI (ps)), .int v4, .ref xa, .int (nI (ty)), .int (nI (sp)), .int v8, .int v9, .int v10, .int v11, .int v12, .ref ta])), (sa, .inl (dA 0, 718, .inl f)), (pa, .inl (dA 0, 2872, .inl g)), (ha, .inl (dA 0, 718, .inl h)), (xa, .inl (dA 0, 60, .inl tx)), (ta, .inl (dA 0, 3, .inl td))] H))) (zQi (fun rz H => rz = bI (0 < numLen tx ty 3 sp) ∧ va_P D vwCl [(m0, .inr (4, [.ref sa, .ref pa, .ref ha, .int (nI (ps)), .int v4, .ref xa, .int (nI (ty)), .int (nI (sp + numLen tx ty 3 sp)), .int v8, .int v9, .int v10, .int v11, .int v12, .ref ta])), (sa, .inl (dA 0, 718, .inl f)), (pa, .inl (dA 0, 2872, .inl g)), (ha, .inl (dA 0, 718, .inl h)), (xa, .inl (dA 0, 60, .inl tx)), (ta, .inl (dA 0, 3, .inl (upd td w (numV tx sp (numLen tx ty 3 sp)))))] H) A) (0) (0) A := by
  refine Met.ofW (cc := cX4_number) (maxL := 3) (ret := (some .boolean)) (by decide) rfl ?_
  intro p e s m args below meth c s₁ B hml hv
  obtain ⟨rfl, hsz, hC, hP⟩ := hv
  have hx := B.exec
  have hb := B.bytes
  have hr := B.returns
  have hts := atoms_spec (ws := ws_ yX4_number cX4_number 3 (some .boolean)) B.pre
  have hts : ∀ w ∈ lw_all, w.before _ s = true := fun w h => hts w (List.mem_cons_of_mem _ h)
  have hown : s.vm.findClass RX4 = some m.cls := findClass_of_methodNamed B.named
  have hlocks := B.notSynchronized
  subst hsz
  have hK := hC.K
  have hS : va_S A s.heap s.heap [] := va_S.rf
  have hP : va_P D vwCl [(m0, .inr (4, [.ref sa, .ref pa, .ref ha, .int (nI (ps)), .int v4, .ref xa, .int (nI (ty)), .int (nI (sp)), .int v8, .int v9, .int v10, .int v11, .int v12, .ref ta])), (sa, .inl (dA 0, 718, .inl f)), (pa, .inl (dA 0, 2872, .inl g)), (ha, .inl (dA 0, 718, .inl h)), (xa, .inl (dA 0, 60, .inl tx)), (ta, .inl (dA 0, 3, .inl td))] s.heap := hP
  have hl := lv_entry ([.ref m0, .int (nI (w))]) (n := 3) (Nat.le_of_ble_eq_true rfl)
  rw [lg_entry_eq]
  generalize (lg_sl ([.ref m0, .int (nI (w))]) ++ List.replicate (3 - (lg_sl ([.ref m0, .int (nI (w))])).length) Slot.unset).toArray = ls at hl ⊢
  have hl : lv_has ls 3 [(0, .ref m0), (1, .int (nI (w)))] := hl
  refine lv_aload_n hx hb dX4_number_0 rfl (lv_at hl 0 rfl) ?_
  refine va_get (D := D) (ci := 4) (v := .int (nI (sp))) (C := RX4) (T := TX4) (N := 14) hx hb hts in_X4 hown hK hP 0 rfl rfl 7 (by decide) (hts _ q1336) (fun _ h9 => h9) rfl dX4_number_1 ?_
  refine lv_istore_n (lv' := [(2, .int (nI (sp))), (0, .ref m0), (1, .int (nI (w)))]) hx hb dX4_number_4 rfl hl (by decide) rfl (fun ls hl => ?_)
  refine lv_aload_n hx hb dX4_number_5 rfl (lv_at hl 1 rfl) ?_
  refine va_get (D := D) (ci := 4) (v := .ref ta) (C := RX4) (T := TX4) (N := 14) hx hb hts in_X4 hown hK hP 0 rfl rfl 13 (by decide) (hts _ q1342) (fun _ h9 => h9) rfl dX4_number_6 ?_
  refine lv_iload_n hx hb dX4_number_9 rfl (lv_at hl 2 rfl) ?_
  refine lv_iconst (v := nI (0)) hx hb dX4_number_10 (by decide) ?_
  refine va_iast hx hb hK hP hD hS 5 0 rfl rfl (vp_in_nI (by omega) (by omega)) dX4_number_11 (fun H locs hP hD hS => ?_)
  rw [nI_clamp (by omega)] at hP hD
  have hP : va_P D vwCl [(m0, .inr (4, [.ref sa, .ref pa, .ref ha, .int (nI (ps)), .int v4, .ref xa, .int (nI (ty)), .int (nI (sp)), .int v8, .int v9, .int v10, .int v11, .int v12, .ref ta])), (sa, .inl (dA 0, 718, .inl f)), (pa, .inl (dA 0, 2872, .inl g)), (ha, .inl (dA 0, 718, .inl h)), (xa, .inl (dA 0, 60, .inl tx)), (ta, .inl (dA 0, 3, .inl (upd td w (nI (0)))))] H := hP
  have hD : va_D A [(m0, .inr (4, [.ref sa, .ref pa, .ref ha, .int (nI (ps)), .int v4, .ref xa, .int (nI (ty)), .int (nI (sp)), .int v8, .int v9, .int v10, .int v11, .int v12, .ref ta])), (sa, .inl (dA 0, 718, .inl f)), (pa, .inl (dA 0, 2872, .inl g)), (ha, .inl (dA 0, 718, .inl h)), (xa, .inl (dA 0, 60, .inl tx)), (ta, .inl (dA 0, 3, .inl (upd td w (nI (0)))))] := hD
  refine z_loop (σ := Nat) (fun k => 3 - k) (fun k H locs ls => va_P D vwCl [(m0, .inr (4, [.ref sa, .ref pa, .ref ha, .int (nI (ps)), .int v4, .ref xa, .int (nI (ty)), .int (nI (sp + k)), .int v8, .int v9, .int v10, .int v11, .int v12, .ref ta])), (sa, .inl (dA 0, 718, .inl f)), (pa, .inl (dA 0, 2872, .inl g)), (ha, .inl (dA 0, 718, .inl h)), (xa, .inl (dA 0, 60, .inl tx)), (ta, .inl (dA 0, 3, .inl (upd td w (numV tx sp k))))] H ∧ va_D A [(m0, .inr (4, [.ref sa, .ref pa, .ref ha, .int (nI (ps)), .int v4, .ref xa, .int (nI (ty)), .int (nI (sp + k)), .int v8, .int v9, .int v10, .int v11, .int v12, .ref ta])), (sa, .inl (dA 0, 718, .inl f)), (pa, .inl (dA 0, 2872, .inl g)), (ha, .inl (dA 0, 718, .inl h)), (xa, .inl (dA 0, 60, .inl tx)), (ta, .inl (dA 0, 3, .inl (upd td w (numV tx sp k))))] ∧ va_S A s.heap H locs ∧ lv_has ls 3 [(0, .ref m0), (1, .int (nI (w))), (2, .int (nI (sp)))] ∧ k ≤ 3 ∧ sp + k ≤ ty ∧ numLen tx ty 3 sp = k + numLen tx ty (3 - k) (sp + k)) (0) ⟨hP, hD.same rfl, hS, (lv_sub (l' := [(0, .ref m0), (1, .int (nI (w))), (2, .int (nI (sp)))]) hl [1, 2, 0] rfl), by omega, by omega, by simp⟩ ?_
  intro k H locs ls ⟨hP, hD, hS, hl, hk, hk2, hL⟩ ih_12
  refine lv_aload_n hx hb dX4_number_12 rfl (lv_at hl 0 rfl) ?_
  refine lv_bipush (v := nI (48)) hx hb dX4_number_13 (by decide) ?_
  refine lv_bipush (v := nI (57)) hx hb dX4_number_15 (by decide) ?_
  refine z_cVi (As := [.int (nI (48)), .int (nI (57))]) (rest := []) ⟨hx, hb, hml, hown, hts⟩ (mX4_isAt l D dA ad H.size m0 sa pa ha xa ta (nI (ps)) v4 v8 v9 v10 v11 v12 ty (sp + k) tx (nI (48)) (nI (57)) (by omega) (by omega)) (cwV 2 hts (lw_V q1583 q1585 qs49 q67 q1586) rfl rfl rfl (by decide +kernel) ⟨Nat.le_of_ble_eq_true rfl, Nat.le_of_ble_eq_true rfl⟩) hC hS (fun _ h => hA _ (Nat.le_trans hS.1 h)) (hP.sub (ws' := [(m0, .inr (4, [.ref sa, .ref pa, .ref ha, .int (nI (ps)), .int v4, .ref xa, .int (nI (ty)), .int (nI (sp + k)), .int v8, .int v9, .int v10, .int v11, .int v12, .ref ta])), (xa, .inl (dA 0, 60, .inl tx))]) [0, 4] rfl) (va_recv hK hP (ci := 4) (q0 := 0) rfl rfl) rfl rfl hl.1 (Nat.le_of_ble_eq_true rfl) dX4_number_17 ⟨Nat.le_of_ble_eq_true rfl, Nat.le_of_ble_eq_true rfl⟩ (fun r_1 H locs hQ hF hS => ?_)
  have hP := va_P.ro hF hP
  obtain rfl : bI (isAtP tx ty (sp + k) (nI (48)) (nI (57))) = r_1 := hQ.symm
  refine lv_if_eq (tgt := 74) hx hb dX4_number_20 (by decide) (fun c_2 => ?_) (fun c_2 => ?_)
  · have c_2 := bI_0.1 c_2
    have hstep : numLen tx ty (3 - k) (sp + k) = if isAtP tx ty (sp + k) (nI 48) (nI 57) then numLen tx ty (3 - (k + 1)) (sp + k + 1) + 1 else 0 := by
      rcases Nat.lt_or_ge k 3 with q | q
      · rw [show 3 - k = (3 - (k + 1)) + 1 by omega]; rfl
      · rw [show 3 - k = 0 by omega, if_neg c_2]; rfl
    refine lv_aload_n hx hb dX4_number_74 rfl (lv_at hl 0 rfl) ?_
    refine va_get (D := D) (ci := 4) (v := .int (nI (sp + k))) (C := RX4) (T := TX4) (N := 14) hx hb hts in_X4 hown hK hP 0 rfl rfl 7 (by decide) (hts _ q1336) (fun _ h9 => h9) rfl dX4_number_75 ?_
    refine lv_iload_n hx hb dX4_number_78 rfl (lv_at hl 2 rfl) ?_
    refine lv_icmp_le (tgt := 86) hx hb dX4_number_79 (by decide) (fun c_3 => ?_) (fun c_3 => ?_)
    · have c_3 := (nI_leI (by omega) (by omega)).1 c_3
      refine lv_iconst (v := nI (0)) hx hb dX4_number_86 (by decide) ?_
      exact z_zret (v := nI (0)) hx hb hr (by first | rfl | decide) hS (by rw [show numLen tx ty 3 sp = k from (by rw [hstep, if_neg c_2] at hL; omega)]; exact ⟨(bI_f (by omega)).symm, hP⟩) (by omega) (by omega) dX4_number_87
    · have c_3 := mt (nI_leI (by omega) (by omega)).2 c_3
      refine lv_iconst (v := nI (1)) hx hb dX4_number_82 (by decide) ?_
      refine lv_goto (tgt := 87) hx hb dX4_number_83 (by decide) ?_
      exact z_zret (v := nI (1)) hx hb hr (by first | rfl | decide) hS (by rw [show numLen tx ty 3 sp = k from (by rw [hstep, if_neg c_2] at hL; omega)]; exact ⟨(bI_t (by omega)).symm, hP⟩) (by omega) (by omega) dX4_number_87
  · have c_2 := bI_1.1 c_2
    have hat := c_2
    refine lv_aload_n hx hb dX4_number_23 rfl (lv_at hl 0 rfl) ?_
    refine va_get (D := D) (ci := 4) (v := .int (nI (sp + k))) (C := RX4) (T := TX4) (N := 14) hx hb hts in_X4 hown hK hP 0 rfl rfl 7 (by decide) (hts _ q1336) (fun _ h9 => h9) rfl dX4_number_24 ?_
    refine lv_iload_n hx hb dX4_number_27 rfl (lv_at hl 2 rfl) ?_
    refine lv_isub hx hb dX4_number_28 ?_
    refine lv_tope (y := nI ((sp + k) - sp)) (pk_sub (by omega)) ?_
    refine lv_iconst (v := nI (3)) hx hb dX4_number_29 (by decide) ?_
    refine lv_icmp_ge (tgt := 74) hx hb dX4_number_30 (by decide) (fun c_4 => ?_) (fun c_4 => ?_)
    · have c_4 := (nI_leI (by omega) (by omega)).1 c_4
      refine lv_aload_n hx hb dX4_number_74 rfl (lv_at hl 0 rfl) ?_
      refine va_get (D := D) (ci := 4) (v := .int (nI (sp + k))) (C := RX4) (T := TX4) (N := 14) hx hb hts in_X4 hown hK hP 0 rfl rfl 7 (by decide) (hts _ q1336) (fun _ h9 => h9) rfl dX4_number_75 ?_
      refine lv_iload_n hx hb dX4_number_78 rfl (lv_at hl 2 rfl) ?_
      refine lv_icmp_le (tgt := 86) hx hb dX4_number_79 (by decide) (fun c_5 => ?_) (fun c_5 => ?_)
      · have c_5 := (nI_leI (by omega) (by omega)).1 c_5
        refine lv_iconst (v := nI (0)) hx hb dX4_number_86 (by decide) ?_
        exact z_zret (v := nI (0)) hx hb hr (by first | rfl | decide) hS (by rw [show numLen tx ty 3 sp = k from (by rw [show 3 - k = 0 by omega, show numLen tx ty 0 (sp + k) = 0 from rfl] at hL; omega)]; exact ⟨(bI_f (by omega)).symm, hP⟩) (by omega) (by omega) dX4_number_87
      · have c_5 := mt (nI_leI (by omega) (by omega)).2 c_5
        refine lv_iconst (v := nI (1)) hx hb dX4_number_82 (by decide) ?_
        refine lv_goto (tgt := 87) hx hb dX4_number_83 (by decide) ?_
        exact z_zret (v := nI (1)) hx hb hr (by first | rfl | decide) hS (by rw [show numLen tx ty 3 sp = k from (by rw [show 3 - k = 0 by omega, show numLen tx ty 0 (sp + k) = 0 from rfl] at hL; omega)]; exact ⟨(bI_t (by omega)).symm, hP⟩) (by omega) (by omega) dX4_number_87
    · have c_4 := mt (nI_leI (by omega) (by omega)).2 c_4
      have hstep : numLen tx ty (3 - k) (sp + k) = if isAtP tx ty (sp + k) (nI 48) (nI 57) then numLen tx ty (3 - (k + 1)) (sp + k + 1) + 1 else 0 := by rw [show 3 - k = (3 - (k + 1)) + 1 by omega]; rfl
      refine lv_aload_n hx hb dX4_number_33 rfl (lv_at hl 0 rfl) ?_
      refine va_get (D := D) (ci := 4) (v := .ref ta) (C := RX4) (T := TX4) (N := 14) hx hb hts in_X4 hown hK hP 0 rfl rfl 13 (by decide) (hts _ q1342) (fun _ h9 => h9) rfl dX4_number_34 ?_
      refine lv_iload_n hx hb dX4_number_37 rfl (lv_at hl 1 rfl) ?_
      refine lv_bipush (v := nI (10)) hx hb dX4_number_38 (by decide) ?_
      refine lv_aload_n hx hb dX4_number_40 rfl (lv_at hl 0 rfl) ?_
      refine va_get (D := D) (ci := 4) (v := .ref ta) (C := RX4) (T := TX4) (N := 14) hx hb hts in_X4 hown hK hP 0 rfl rfl 13 (by decide) (hts _ q1342) (fun _ h9 => h9) rfl dX4_number_41 ?_
      refine lv_iload_n hx hb dX4_number_44 rfl (lv_at hl 1 rfl) ?_
      refine va_iald hx hb hK hP 5 0 rfl rfl (vp_in_nI (by omega) (by omega)) dX4_number_45 ?_
      refine lv_tope (y := (upd td w (numV tx sp k)) w) (by rw [nI_clamp (by omega)]) ?_
      refine lv_tope (y := numV tx sp k) (if_pos rfl) ?_
      refine lv_imul hx hb dX4_number_46 ?_
      refine lv_aload_n hx hb dX4_number_47 rfl (lv_at hl 0 rfl) ?_
      refine va_get (D := D) (ci := 4) (v := .ref xa) (C := RX4) (T := TX4) (N := 14) hx hb hts in_X4 hown hK hP 0 rfl rfl 5 (by decide) (hts _ q1334) (fun _ h9 => h9) rfl dX4_number_48 ?_
      refine lv_aload_n hx hb dX4_number_51 rfl (lv_at hl 0 rfl) ?_
      refine va_get (D := D) (ci := 4) (v := .int (nI (sp + k))) (C := RX4) (T := TX4) (N := 14) hx hb hts in_X4 hown hK hP 0 rfl rfl 7 (by decide) (hts _ q1336) (fun _ h9 => h9) rfl dX4_number_52 ?_
      refine va_iald hx hb hK hP 4 0 rfl rfl (vp_in_nI (by omega) (by omega)) dX4_number_55 ?_
      refine lv_tope (y := tx (sp + k)) (by rw [nI_clamp (by omega)]) ?_
      refine lv_iadd hx hb dX4_number_56 ?_
      refine lv_bipush (v := nI (48)) hx hb dX4_number_57 (by decide) ?_
      refine lv_isub hx hb dX4_number_59 ?_
      refine va_iast hx hb hK hP hD hS 5 0 rfl rfl (vp_in_nI (by omega) (by omega)) dX4_number_60 (fun H locs hP hD hS => ?_)
      rw [nI_clamp (by omega)] at hP hD
      have hP : va_P D vwCl [(m0, .inr (4, [.ref sa, .ref pa, .ref ha, .int (nI (ps)), .int v4, .ref xa, .int (nI (ty)), .int (nI (sp + k)), .int v8, .int v9, .int v10, .int v11, .int v12, .ref ta])), (sa, .inl (dA 0, 718, .inl f)), (pa, .inl (dA 0, 2872, .inl g)), (ha, .inl (dA 0, 718, .inl h)), (xa, .inl (dA 0, 60, .inl tx)), (ta, .inl (dA 0, 3, .inl (upd (upd td w (numV tx sp k)) w ((((nI (10)) * (numV tx sp k)) + (tx (sp + k))) - (nI (48))))))] H := hP
      have hD : va_D A [(m0, .inr (4, [.ref sa, .ref pa, .ref ha, .int (nI (ps)), .int v4, .ref xa, .int (nI (ty)), .int (nI (sp + k)), .int v8, .int v9, .int v10, .int v11, .int v12, .ref ta])), (sa, .inl (dA 0, 718, .inl f)), (pa, .inl (dA 0, 2872, .inl g)), (ha, .inl (dA 0, 718, .inl h)), (xa, .inl (dA 0, 60, .inl tx)), (ta, .inl (dA 0, 3, .inl (upd (upd td w (numV tx sp k)) w ((((nI (10)) * (numV tx sp k)) + (tx (sp + k))) - (nI (48))))))] := hD
      rw [show (upd (upd td w (numV tx sp k)) w ((((nI (10)) * (numV tx sp k)) + (tx (sp + k))) - (nI (48))) : Nat → Int32) = upd td w (numV tx sp (k + 1)) from by rw [upd_upd]; rfl] at hP hD
      refine lv_aload_n hx hb dX4_number_61 rfl (lv_at hl 0 rfl) ?_
      refine lv_dup hx hb dX4_number_62 rfl ?_
      refine va_get (D := D) (ci := 4) (v := .int (nI (sp + k))) (C := RX4) (T := TX4) (N := 14) hx hb hts in_X4 hown hK hP 0 rfl rfl 7 (by decide) (hts _ q1336) (fun _ h9 => h9) rfl dX4_number_63 ?_
      refine lv_iconst (v := nI (1)) hx hb dX4_number_66 (by decide) ?_
      refine lv_iadd hx hb dX4_number_67 ?_
      refine lv_tope (y := nI ((sp + k) + 1)) (nI_add _ _) ?_
      refine va_put (D := D) (ci := 4) (v := .int (nI ((sp + k) + 1))) (ty := .int) (C := RX4) (T := TX4) (N := 14) hx hb hts in_X4 tyX4 tyX4_ok nmX4 hown hK hP hD hS 0 rfl rfl 7 (by decide) (hts _ q1336) (fun _ h9 => h9) rfl (by decide +kernel) rfl rfl (Nat.le_of_ble_eq_true rfl) dX4_number_68 (fun H locs hP hD hS => ?_)
      have hP : va_P D vwCl [(m0, .inr (4, [.ref sa, .ref pa, .ref ha, .int (nI (ps)), .int v4, .ref xa, .int (nI (ty)), .int (nI ((sp + k) + 1)), .int v8, .int v9, .int v10, .int v11, .int v12, .ref ta])), (sa, .inl (dA 0, 718, .inl f)), (pa, .inl (dA 0, 2872, .inl g)), (ha, .inl (dA 0, 718, .inl h)), (xa, .inl (dA 0, 60, .inl tx)), (ta, .inl (dA 0, 3, .inl (upd td w (numV tx sp (k + 1)))))] H := hP
      have hD : va_D A [(m0, .inr (4, [.ref sa, .ref pa, .ref ha, .int (nI (ps)), .int v4, .ref xa, .int (nI (ty)), .int (nI ((sp + k) + 1)), .int v8, .int v9, .int v10, .int v11, .int v12, .ref ta])), (sa, .inl (dA 0, 718, .inl f)), (pa, .inl (dA 0, 2872, .inl g)), (ha, .inl (dA 0, 718, .inl h)), (xa, .inl (dA 0, 60, .inl tx)), (ta, .inl (dA 0, 3, .inl (upd td w (numV tx sp (k + 1)))))] := hD
      refine lv_goto (tgt := 12) hx hb dX4_number_71 (by decide) ?_
      exact ih_12 (k + 1) H locs ls ⟨hP, hD.same rfl, hS, (lv_sub (l' := [(0, .ref m0), (1, .int (nI (w))), (2, .int (nI (sp)))]) hl [0, 1, 2] rfl), by omega, by omega, by rw [hstep, if_pos hat] at hL; rw [show sp + (k + 1) = sp + k + 1 by omega]; omega⟩ (by omega)
