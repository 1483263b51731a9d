set_option maxHeartbeats 4000000 in
set_option maxRecDepth 100000 in
theorem mX4_changes (l : Launch) (D : va_G) (dA : Nat → ClassId) (ad : Nat → Nat) (A : Nat → Prop) (sz : Nat) (m0 : Nat) (sa : Nat) (pa : Nat) (ha : Nat) (xa : Nat) (ta : Nat) (v4 : Int32) (v6 : Int32) (v7 : Int32) (v8 : Int32) (v9 : Int32) (v10 : Int32) (v11 : Int32) (v12 : Int32) (f : Nat → Int32) (ps : Nat) (g : Nat → Int32) (h : Nat → Int32) (tx : Nat → Int32) (td : Nat → Int32) (hA : ∀ q, sz ≤ q → A q) (hp4 : ps ≤ 4) (hD : va_D A [(m0, .inr (4, [.ref sa, .ref pa, .ref ha, .int (nI (ps)), .int v4, .ref xa, .int v6, .int v7, .int v8, .int v9, .int v10, .int v11, .int v12, .ref ta])), (sa, .inl (dA 0, 718, .inl f)), (pa, .inl (dA 0, 2872, .inl g)), (ha, .inl (dA 0, 718, .inl h)), (xa, .inl (dA 0, 60, .inl tx)), (ta, .inl (dA 0, 3, .inl td))]) : Met l yX4_changes (ws_ yX4_changes cX4_changes 2 none) ({ frames := 0, cells := 0, slots := 0, locals := 0 }) (va_Pc [.ref m0] (zP D dA ad A sz (fun H => va_P D vwCl [(m0, .inr (4, [.ref sa, .ref pa, .ref ha, .int (nI (ps)), .int v4, .ref xa, .int v6, .int v7, .int v8, .int v9, .int v10, .int v11, .int v12, .ref ta])), (sa, .inl (dA 0, 718, .inl f)), (pa, .inl (dA 0, 2872, .inl g)), (ha, .inl (dA 0, 718, .inl h)), (xa, .inl (dA 0, 60, .inl tx)), (ta, .inl (dA 0, 3, .inl td))] H))) (zQv (fun H => True ∧ va_P D vwCl [(m0, .inr (4, [.ref sa, .ref pa, .ref ha, .int (nI (chP v4 ps)), .int v4, .ref xa, .int v6, .int v7, .int v8, .int v9, .int v10, .int v11, .int v12, .ref ta])), (sa, .inl (dA 0, 718, .inl f)), (pa, .inl (dA 0, 2872, .inl (chG v4 f g ps))), (ha, .inl (dA 0, 718, .inl h)), (xa, .inl (dA 0, 60, .inl tx)), (ta, .inl (dA 0, 3, .inl td))] H) A) (0) (0) A := by
  refine Met.ofW (cc := cX4_changes) (maxL := 2) (ret := none) (by decide) rfl ?_
  intro p e s m args below meth c s₁ B hml hv
  obtain ⟨rfl, hsz, hC, hP⟩ := hv
  have hx := B.exec
  have hb := B.bytes
  have hr := B.returns
  have hts := atoms_spec (ws := ws_ yX4_changes cX4_changes 2 none) B.pre
  have hts : ∀ w ∈ lw_all, w.before _ s = true := fun w h => hts w (List.mem_cons_of_mem _ h)
  have hown : s.vm.findClass RX4 = some m.cls := findClass_of_methodNamed B.named
  have hlocks := B.notSynchronized
  subst hsz
  have hK := hC.K
  have hS : va_S A s.heap s.heap [] := va_S.rf
  have hP : va_P D vwCl [(m0, .inr (4, [.ref sa, .ref pa, .ref ha, .int (nI (ps)), .int v4, .ref xa, .int v6, .int v7, .int v8, .int v9, .int v10, .int v11, .int v12, .ref ta])), (sa, .inl (dA 0, 718, .inl f)), (pa, .inl (dA 0, 2872, .inl g)), (ha, .inl (dA 0, 718, .inl h)), (xa, .inl (dA 0, 60, .inl tx)), (ta, .inl (dA 0, 3, .inl td))] s.heap := hP
  have hl := lv_entry ([.ref m0]) (n := 2) (Nat.le_of_ble_eq_true rfl)
  rw [lg_entry_eq]
  generalize (lg_sl ([.ref m0]) ++ List.replicate (2 - (lg_sl ([.ref m0])).length) Slot.unset).toArray = ls at hl ⊢
  have hl : lv_has ls 2 [(0, .ref m0)] := hl
  refine lv_aload_n hx hb dX4_changes_0 rfl (lv_at hl 0 rfl) ?_
  refine va_get (D := D) (ci := 4) (v := .int v4) (C := RX4) (T := TX4) (N := 14) hx hb hts in_X4 hown hK hP 0 rfl rfl 4 (by decide) (hts _ q1333) (fun _ h9 => h9) rfl dX4_changes_1 ?_
  refine lv_if_eq (tgt := 8) hx hb dX4_changes_4 (by decide) (fun c_1 => ?_) (fun c_1 => ?_)
  · refine lv_aload_n hx hb dX4_changes_8 rfl (lv_at hl 0 rfl) ?_
    refine va_get (D := D) (ci := 4) (v := .int (nI (ps))) (C := RX4) (T := TX4) (N := 14) hx hb hts in_X4 hown hK hP 0 rfl rfl 3 (by decide) (hts _ q1332) (fun _ h9 => h9) rfl dX4_changes_9 ?_
    refine lv_iconst (v := nI (4)) hx hb dX4_changes_12 (by decide) ?_
    refine lv_icmp_ne (tgt := 57) hx hb dX4_changes_13 (by decide) (fun c_2 => ?_) (fun c_2 => ?_)
    · have c_2 := mt (nI_eq (by omega) (by omega)).2 c_2
      rw [show (g : Nat → Int32) = ptGi f g ps 0 from ptGi_0 _ _ _] at hP hD
      refine lv_iconst (v := nI (0)) hx hb dX4_changes_57 (by decide) ?_
      refine lv_istore_n (lv' := [(1, .int (nI (0))), (0, .ref m0)]) hx hb dX4_changes_58 rfl hl (by decide) rfl (fun ls hl => ?_)
      refine z_loop (σ := Nat) (fun i => 718 - i) (fun i H locs ls => va_P D vwCl [(m0, .inr (4, [.ref sa, .ref pa, .ref ha, .int (nI (ps)), .int v4, .ref xa, .int v6, .int v7, .int v8, .int v9, .int v10, .int v11, .int v12, .ref ta])), (sa, .inl (dA 0, 718, .inl f)), (pa, .inl (dA 0, 2872, .inl (ptGi f g ps i))), (ha, .inl (dA 0, 718, .inl h)), (xa, .inl (dA 0, 60, .inl tx)), (ta, .inl (dA 0, 3, .inl td))] H ∧ va_D A [(m0, .inr (4, [.ref sa, .ref pa, .ref ha, .int (nI (ps)), .int v4, .ref xa, .int v6, .int v7, .int v8, .int v9, .int v10, .int v11, .int v12, .ref ta])), (sa, .inl (dA 0, 718, .inl f)), (pa, .inl (dA 0, 2872, .inl (ptGi f g ps i))), (ha, .inl (dA 0, 718, .inl h)), (xa, .inl (dA 0, 60, .inl tx)), (ta, .inl (dA 0, 3, .inl td))] ∧ va_S A s.heap H locs ∧ lv_has ls 2 [(0, .ref m0), (1, .int (nI (i)))] ∧ i ≤ 718) (0) ⟨hP, hD.same rfl, hS, (lv_sub (l' := [(0, .ref m0), (1, .int (nI (0)))]) hl [1, 0] rfl), by omega⟩ ?_
      intro i H locs ls ⟨hP, hD, hS, hl, hi⟩ ih_59
      refine lv_iload_n hx hb dX4_changes_59 rfl (lv_at hl 1 rfl) ?_
      refine lv_sipush (v := nI (718)) hx hb dX4_changes_60 (by decide) ?_
      refine lv_icmp_ge (tgt := 93) hx hb dX4_changes_63 (by decide) (fun c_3 => ?_) (fun c_3 => ?_)
      · have c_3 := (nI_leI (by omega) (by omega)).1 c_3
        refine lv_aload_n hx hb dX4_changes_93 rfl (lv_at hl 0 rfl) ?_
        refine lv_dup hx hb dX4_changes_94 rfl ?_
        refine va_get (D := D) (ci := 4) (v := .int (nI (ps))) (C := RX4) (T := TX4) (N := 14) hx hb hts in_X4 hown hK hP 0 rfl rfl 3 (by decide) (hts _ q1332) (fun _ h9 => h9) rfl dX4_changes_95 ?_
        refine lv_iconst (v := nI (1)) hx hb dX4_changes_98 (by decide) ?_
        refine lv_iadd hx hb dX4_changes_99 ?_
        refine lv_tope (y := nI (ps + 1)) (nI_add _ _) ?_
        refine va_put (D := D) (ci := 4) (v := .int (nI (ps + 1))) (ty := .int) (C := RX4) (T := TX4) (N := 14) hx hb hts in_X4 tyX4 tyX4_ok nmX4 hown hK hP hD hS 0 rfl rfl 3 (by decide) (hts _ q1332) (fun _ h9 => h9) rfl (by decide +kernel) rfl rfl (Nat.le_of_ble_eq_true rfl) dX4_changes_100 (fun H locs hP hD hS => ?_)
        have hP : va_P D vwCl [(m0, .inr (4, [.ref sa, .ref pa, .ref ha, .int (nI (ps + 1)), .int v4, .ref xa, .int v6, .int v7, .int v8, .int v9, .int v10, .int v11, .int v12, .ref ta])), (sa, .inl (dA 0, 718, .inl f)), (pa, .inl (dA 0, 2872, .inl (ptGi f g ps i))), (ha, .inl (dA 0, 718, .inl h)), (xa, .inl (dA 0, 60, .inl tx)), (ta, .inl (dA 0, 3, .inl td))] H := hP
        have hD : va_D A [(m0, .inr (4, [.ref sa, .ref pa, .ref ha, .int (nI (ps + 1)), .int v4, .ref xa, .int v6, .int v7, .int v8, .int v9, .int v10, .int v11, .int v12, .ref ta])), (sa, .inl (dA 0, 718, .inl f)), (pa, .inl (dA 0, 2872, .inl (ptGi f g ps i))), (ha, .inl (dA 0, 718, .inl h)), (xa, .inl (dA 0, 60, .inl tx)), (ta, .inl (dA 0, 3, .inl td))] := hD
        exact z_vret hx hb hr hS (by rw [chP_n (by assumption) (by omega), chG_n (by assumption) (by omega)]; rw [show i = 718 by omega] at hP; exact ⟨trivial, hP⟩) (by omega) (by omega) dX4_changes_103
      · have c_3 := mt (nI_leI (by omega) (by omega)).2 c_3
        refine lv_aload_n hx hb dX4_changes_66 rfl (lv_at hl 0 rfl) ?_
        refine va_get (D := D) (ci := 4) (v := .ref pa) (C := RX4) (T := TX4) (N := 14) hx hb hts in_X4 hown hK hP 0 rfl rfl 1 (by decide) (hts _ q1330) (fun _ h9 => h9) rfl dX4_changes_67 ?_
        refine lv_sipush (v := nI (718)) hx hb dX4_changes_70 (by decide) ?_
        refine lv_aload_n hx hb dX4_changes_73 rfl (lv_at hl 0 rfl) ?_
        refine va_get (D := D) (ci := 4) (v := .int (nI (ps))) (C := RX4) (T := TX4) (N := 14) hx hb hts in_X4 hown hK hP 0 rfl rfl 3 (by decide) (hts _ q1332) (fun _ h9 => h9) rfl dX4_changes_74 ?_
        refine lv_imul hx hb dX4_changes_77 ?_
        refine lv_tope (y := nI (718 * ps)) (pk_mul _ _) ?_
        refine lv_iload_n hx hb dX4_changes_78 rfl (lv_at hl 1 rfl) ?_
        refine lv_iadd hx hb dX4_changes_79 ?_
        refine lv_tope (y := nI ((718 * ps) + i)) (nI_add _ _) ?_
        refine lv_aload_n hx hb dX4_changes_80 rfl (lv_at hl 0 rfl) ?_
        refine va_get (D := D) (ci := 4) (v := .ref sa) (C := RX4) (T := TX4) (N := 14) hx hb hts in_X4 hown hK hP 0 rfl rfl 0 (by decide) (hts _ q1329) (fun _ h9 => h9) rfl dX4_changes_81 ?_
        refine lv_iload_n hx hb dX4_changes_84 rfl (lv_at hl 1 rfl) ?_
        refine va_iald hx hb hK hP 1 0 rfl rfl (vp_in_nI (by omega) (by omega)) dX4_changes_85 ?_
        refine lv_tope (y := f i) (by rw [nI_clamp (by omega)]) ?_
        refine va_iast hx hb hK hP hD hS 2 0 rfl rfl (vp_in_nI (by omega) (by omega)) dX4_changes_86 (fun H locs hP hD hS => ?_)
        rw [nI_clamp (by omega)] at hP hD
        have hP : va_P D vwCl [(m0, .inr (4, [.ref sa, .ref pa, .ref ha, .int (nI (ps)), .int v4, .ref xa, .int v6, .int v7, .int v8, .int v9, .int v10, .int v11, .int v12, .ref ta])), (sa, .inl (dA 0, 718, .inl f)), (pa, .inl (dA 0, 2872, .inl (upd (ptGi f g ps i) ((718 * ps) + i) (f i)))), (ha, .inl (dA 0, 718, .inl h)), (xa, .inl (dA 0, 60, .inl tx)), (ta, .inl (dA 0, 3, .inl td))] H := hP
        have hD : va_D A [(m0, .inr (4, [.ref sa, .ref pa, .ref ha, .int (nI (ps)), .int v4, .ref xa, .int v6, .int v7, .int v8, .int v9, .int v10, .int v11, .int v12, .ref ta])), (sa, .inl (dA 0, 718, .inl f)), (pa, .inl (dA 0, 2872, .inl (upd (ptGi f g ps i) ((718 * ps) + i) (f i)))), (ha, .inl (dA 0, 718, .inl h)), (xa, .inl (dA 0, 60, .inl tx)), (ta, .inl (dA 0, 3, .inl td))] := hD
        rw [show (upd (ptGi f g ps i) ((718 * ps) + i) (f i) : Nat → Int32) = ptGi f g ps (i + 1) from ptGi_step _ _ _ _] at hP hD
        refine lv_iinc (v := nI (i + 1)) (lv' := [(1, .int (nI (i + 1))), (0, .ref m0)]) hx hb dX4_changes_87 hl (k := 1) rfl (nI_add _ _) (by decide) rfl (fun ls hl => ?_)
        refine lv_goto (tgt := 59) hx hb dX4_changes_90 (by decide) ?_
        exact ih_59 (i + 1) H locs ls ⟨hP, hD.same rfl, hS, (lv_sub (l' := [(0, .ref m0), (1, .int (nI ((i + 1))))]) hl [1, 0] rfl), by omega⟩ (by omega)
    · have c_2 := (nI_eq (by omega) (by omega)).1 c_2
      have hp := c_2
      rw [show (g : Nat → Int32) = shGi g 0 from shGi_0 _] at hP hD
      refine lv_iconst (v := nI (0)) hx hb dX4_changes_16 (by decide) ?_
      refine lv_istore_n (lv' := [(1, .int (nI (0))), (0, .ref m0)]) hx hb dX4_changes_17 rfl hl (by decide) rfl (fun ls hl => ?_)
      refine z_loop (σ := Nat) (fun i => 2154 - i) (fun i H locs ls => va_P D vwCl [(m0, .inr (4, [.ref sa, .ref pa, .ref ha, .int (nI (ps)), .int v4, .ref xa, .int v6, .int v7, .int v8, .int v9, .int v10, .int v11, .int v12, .ref ta])), (sa, .inl (dA 0, 718, .inl f)), (pa, .inl (dA 0, 2872, .inl (shGi g i))), (ha, .inl (dA 0, 718, .inl h)), (xa, .inl (dA 0, 60, .inl tx)), (ta, .inl (dA 0, 3, .inl td))] H ∧ va_D A [(m0, .inr (4, [.ref sa, .ref pa, .ref ha, .int (nI (ps)), .int v4, .ref xa, .int v6, .int v7, .int v8, .int v9, .int v10, .int v11, .int v12, .ref ta])), (sa, .inl (dA 0, 718, .inl f)), (pa, .inl (dA 0, 2872, .inl (shGi g i))), (ha, .inl (dA 0, 718, .inl h)), (xa, .inl (dA 0, 60, .inl tx)), (ta, .inl (dA 0, 3, .inl td))] ∧ va_S A s.heap H locs ∧ lv_has ls 2 [(0, .ref m0), (1, .int (nI (i)))] ∧ i ≤ 2154) (0) ⟨hP, hD.same rfl, hS, (lv_sub (l' := [(0, .ref m0), (1, .int (nI (0)))]) hl [1, 0] rfl), by omega⟩ ?_
      intro i H locs ls ⟨hP, hD, hS, hl, hi⟩ ih_18
      refine lv_iload_n hx hb dX4_changes_18 rfl (lv_at hl 1 rfl) ?_
      refine lv_sipush (v := nI (2154)) hx hb dX4_changes_19 (by decide) ?_
      refine lv_icmp_ge (tgt := 47) hx hb dX4_changes_22 (by decide) (fun c_4 => ?_) (fun c_4 => ?_)
      · have c_4 := (nI_leI (by omega) (by omega)).1 c_4
        rw [show i = 2154 by omega] at hP hD
        refine lv_aload_n hx hb dX4_changes_47 rfl (lv_at hl 0 rfl) ?_
        refine lv_dup hx hb dX4_changes_48 rfl ?_
        refine va_get (D := D) (ci := 4) (v := .int (nI (ps))) (C := RX4) (T := TX4) (N := 14) hx hb hts in_X4 hown hK hP 0 rfl rfl 3 (by decide) (hts _ q1332) (fun _ h9 => h9) rfl dX4_changes_49 ?_
        refine lv_iconst (v := nI (1)) hx hb dX4_changes_52 (by decide) ?_
        refine lv_isub hx hb dX4_changes_53 ?_
        refine lv_tope (y := nI (3)) (by rw [show ps = 4 by omega]; decide) ?_
        refine va_put (D := D) (ci := 4) (v := .int (nI (3))) (ty := .int) (C := RX4) (T := TX4) (N := 14) hx hb hts in_X4 tyX4 tyX4_ok nmX4 hown hK hP hD hS 0 rfl rfl 3 (by decide) (hts _ q1332) (fun _ h9 => h9) rfl (by decide +kernel) rfl rfl (Nat.le_of_ble_eq_true rfl) dX4_changes_54 (fun H locs hP hD hS => ?_)
        have hP : va_P D vwCl [(m0, .inr (4, [.ref sa, .ref pa, .ref ha, .int (nI (3)), .int v4, .ref xa, .int v6, .int v7, .int v8, .int v9, .int v10, .int v11, .int v12, .ref ta])), (sa, .inl (dA 0, 718, .inl f)), (pa, .inl (dA 0, 2872, .inl (shGi g 2154))), (ha, .inl (dA 0, 718, .inl h)), (xa, .inl (dA 0, 60, .inl tx)), (ta, .inl (dA 0, 3, .inl td))] H := hP
        have hD : va_D A [(m0, .inr (4, [.ref sa, .ref pa, .ref ha, .int (nI (3)), .int v4, .ref xa, .int v6, .int v7, .int v8, .int v9, .int v10, .int v11, .int v12, .ref ta])), (sa, .inl (dA 0, 718, .inl f)), (pa, .inl (dA 0, 2872, .inl (shGi g 2154))), (ha, .inl (dA 0, 718, .inl h)), (xa, .inl (dA 0, 60, .inl tx)), (ta, .inl (dA 0, 3, .inl td))] := hD
        rw [show (shGi g 2154 : Nat → Int32) = ptGi f (shGi g 2154) 3 0 from ptGi_0 _ _ _] at hP hD
        refine lv_iconst (v := nI (0)) hx hb dX4_changes_57 (by decide) ?_
        refine lv_istore_n (lv' := [(1, .int (nI (0))), (0, .ref m0)]) hx hb dX4_changes_58 rfl hl (by decide) rfl (fun ls hl => ?_)
        refine z_loop (σ := Nat) (fun i => 718 - i) (fun i H locs ls => va_P D vwCl [(m0, .inr (4, [.ref sa, .ref pa, .ref ha, .int (nI (3)), .int v4, .ref xa, .int v6, .int v7, .int v8, .int v9, .int v10, .int v11, .int v12, .ref ta])), (sa, .inl (dA 0, 718, .inl f)), (pa, .inl (dA 0, 2872, .inl (ptGi f (shGi g 2154) 3 i))), (ha, .inl (dA 0, 718, .inl h)), (xa, .inl (dA 0, 60, .inl tx)), (ta, .inl (dA 0, 3, .inl td))] H ∧ va_D A [(m0, .inr (4, [.ref sa, .ref pa, .ref ha, .int (nI (3)), .int v4, .ref xa, .int v6, .int v7, .int v8, .int v9, .int v10, .int v11, .int v12, .ref ta])), (sa, .inl (dA 0, 718, .inl f)), (pa, .inl (dA 0, 2872, .inl (ptGi f (shGi g 2154) 3 i))), (ha, .inl (dA 0, 718, .inl h)), (xa, .inl (dA 0, 60, .inl tx)), (ta, .inl (dA 0, 3, .inl td))] ∧ va_S A s.heap H locs ∧ lv_has ls 2 [(0, .ref m0), (1, .int (nI (i)))] ∧ i ≤ 718) (0) ⟨hP, hD.same rfl, hS, (lv_sub (l' := [(0, .ref m0), (1, .int (nI (0)))]) hl [1, 0] rfl), by omega⟩ ?_
        intro i H locs ls ⟨hP, hD, hS, hl, hi⟩ ih_59
        refine lv_iload_n hx hb dX4_changes_59 rfl (lv_at hl 1 rfl) ?_
        refine lv_sipush (v := nI (718)) hx hb dX4_changes_60 (by decide) ?_
        refine lv_icmp_ge (tgt := 93) hx hb dX4_changes_63 (by decide) (fun c_5 => ?_) (fun c_5 => ?_)
        · have c_5 := (nI_leI (by omega) (by omega)).1 c_5
          refine lv_aload_n hx hb dX4_changes_93 rfl (lv_at hl 0 rfl) ?_
          refine lv_dup hx hb dX4_changes_94 rfl ?_
          refine va_get (D := D) (ci := 4) (v := .int (nI (3))) (C := RX4) (T := TX4) (N := 14) hx hb hts in_X4 hown hK hP 0 rfl rfl 3 (by decide) (hts _ q1332) (fun _ h9 => h9) rfl dX4_changes_95 ?_
          refine lv_iconst (v := nI (1)) hx hb dX4_changes_98 (by decide) ?_
          refine lv_iadd hx hb dX4_changes_99 ?_
          refine lv_tope (y := nI (4)) (by decide) ?_
          refine va_put (D := D) (ci := 4) (v := .int (nI (4))) (ty := .int) (C := RX4) (T := TX4) (N := 14) hx hb hts in_X4 tyX4 tyX4_ok nmX4 hown hK hP hD hS 0 rfl rfl 3 (by decide) (hts _ q1332) (fun _ h9 => h9) rfl (by decide +kernel) rfl rfl (Nat.le_of_ble_eq_true rfl) dX4_changes_100 (fun H locs hP hD hS => ?_)
          have hP : va_P D vwCl [(m0, .inr (4, [.ref sa, .ref pa, .ref ha, .int (nI (4)), .int v4, .ref xa, .int v6, .int v7, .int v8, .int v9, .int v10, .int v11, .int v12, .ref ta])), (sa, .inl (dA 0, 718, .inl f)), (pa, .inl (dA 0, 2872, .inl (ptGi f (shGi g 2154) 3 i))), (ha, .inl (dA 0, 718, .inl h)), (xa, .inl (dA 0, 60, .inl tx)), (ta, .inl (dA 0, 3, .inl td))] H := hP
          have hD : va_D A [(m0, .inr (4, [.ref sa, .ref pa, .ref ha, .int (nI (4)), .int v4, .ref xa, .int v6, .int v7, .int v8, .int v9, .int v10, .int v11, .int v12, .ref ta])), (sa, .inl (dA 0, 718, .inl f)), (pa, .inl (dA 0, 2872, .inl (ptGi f (shGi g 2154) 3 i))), (ha, .inl (dA 0, 718, .inl h)), (xa, .inl (dA 0, 60, .inl tx)), (ta, .inl (dA 0, 3, .inl td))] := hD
          exact z_vret hx hb hr hS (by rw [chP_4 (by assumption) (by omega), chG_4 (by assumption) (by omega)]; rw [show i = 718 by omega] at hP; exact ⟨trivial, hP⟩) (by omega) (by omega) dX4_changes_103
        · have c_5 := mt (nI_leI (by omega) (by omega)).2 c_5
          refine lv_aload_n hx hb dX4_changes_66 rfl (lv_at hl 0 rfl) ?_
          refine va_get (D := D) (ci := 4) (v := .ref pa) (C := RX4) (T := TX4) (N := 14) hx hb hts in_X4 hown hK hP 0 rfl rfl 1 (by decide) (hts _ q1330) (fun _ h9 => h9) rfl dX4_changes_67 ?_
          refine lv_sipush (v := nI (718)) hx hb dX4_changes_70 (by decide) ?_
          refine lv_aload_n hx hb dX4_changes_73 rfl (lv_at hl 0 rfl) ?_
          refine va_get (D := D) (ci := 4) (v := .int (nI (3))) (C := RX4) (T := TX4) (N := 14) hx hb hts in_X4 hown hK hP 0 rfl rfl 3 (by decide) (hts _ q1332) (fun _ h9 => h9) rfl dX4_changes_74 ?_
          refine lv_imul hx hb dX4_changes_77 ?_
          refine lv_tope (y := nI (2154)) (by decide) ?_
          refine lv_iload_n hx hb dX4_changes_78 rfl (lv_at hl 1 rfl) ?_
          refine lv_iadd hx hb dX4_changes_79 ?_
          refine lv_tope (y := nI (2154 + i)) (nI_add _ _) ?_
          refine lv_aload_n hx hb dX4_changes_80 rfl (lv_at hl 0 rfl) ?_
          refine va_get (D := D) (ci := 4) (v := .ref sa) (C := RX4) (T := TX4) (N := 14) hx hb hts in_X4 hown hK hP 0 rfl rfl 0 (by decide) (hts _ q1329) (fun _ h9 => h9) rfl dX4_changes_81 ?_
          refine lv_iload_n hx hb dX4_changes_84 rfl (lv_at hl 1 rfl) ?_
          refine va_iald hx hb hK hP 1 0 rfl rfl (vp_in_nI (by omega) (by omega)) dX4_changes_85 ?_
          refine lv_tope (y := f i) (by rw [nI_clamp (by omega)]) ?_
          refine va_iast hx hb hK hP hD hS 2 0 rfl rfl (vp_in_nI (by omega) (by omega)) dX4_changes_86 (fun H locs hP hD hS => ?_)
          rw [nI_clamp (by omega)] at hP hD
          have hP : va_P D vwCl [(m0, .inr (4, [.ref sa, .ref pa, .ref ha, .int (nI (3)), .int v4, .ref xa, .int v6, .int v7, .int v8, .int v9, .int v10, .int v11, .int v12, .ref ta])), (sa, .inl (dA 0, 718, .inl f)), (pa, .inl (dA 0, 2872, .inl (upd (ptGi f (shGi g 2154) 3 i) (2154 + i) (f i)))), (ha, .inl (dA 0, 718, .inl h)), (xa, .inl (dA 0, 60, .inl tx)), (ta, .inl (dA 0, 3, .inl td))] H := hP
          have hD : va_D A [(m0, .inr (4, [.ref sa, .ref pa, .ref ha, .int (nI (3)), .int v4, .ref xa, .int v6, .int v7, .int v8, .int v9, .int v10, .int v11, .int v12, .ref ta])), (sa, .inl (dA 0, 718, .inl f)), (pa, .inl (dA 0, 2872, .inl (upd (ptGi f (shGi g 2154) 3 i) (2154 + i) (f i)))), (ha, .inl (dA 0, 718, .inl h)), (xa, .inl (dA 0, 60, .inl tx)), (ta, .inl (dA 0, 3, .inl td))] := hD
          rw [show (upd (ptGi f (shGi g 2154) 3 i) (2154 + i) (f i) : Nat → Int32) = ptGi f (shGi g 2154) 3 (i + 1) from ptGi_step _ _ _ _] at hP hD
          refine lv_iinc (v := nI (i + 1)) (lv' := [(1, .int (nI (i + 1))), (0, .ref m0)]) hx hb dX4_changes_87 hl (k := 1) rfl (nI_add _ _) (by decide) rfl (fun ls hl => ?_)
          refine lv_goto (tgt := 59) hx hb dX4_changes_90 (by decide) ?_
          exact ih_59 (i + 1) H locs ls ⟨hP, hD.same rfl, hS, (lv_sub (l' := [(0, .ref m0), (1, .int (nI ((i + 1))))]) hl [1, 0] rfl), by omega⟩ (by omega)
      · have c_4 := mt (nI_leI (by omega) (by omega)).2 c_4
        refine lv_aload_n hx hb dX4_changes_25 rfl (lv_at hl 0 rfl) ?_
        refine va_get (D := D) (ci := 4) (v := .ref pa) (C := RX4) (T := TX4) (N := 14) hx hb hts in_X4 hown hK hP 0 rfl rfl 1 (by decide) (hts _ q1330) (fun _ h9 => h9) rfl dX4_changes_26 ?_
        refine lv_iload_n hx hb dX4_changes_29 rfl (lv_at hl 1 rfl) ?_
        refine lv_aload_n hx hb dX4_changes_30 rfl (lv_at hl 0 rfl) ?_
        refine va_get (D := D) (ci := 4) (v := .ref pa) (C := RX4) (T := TX4) (N := 14) hx hb hts in_X4 hown hK hP 0 rfl rfl 1 (by decide) (hts _ q1330) (fun _ h9 => h9) rfl dX4_changes_31 ?_
        refine lv_iload_n hx hb dX4_changes_34 rfl (lv_at hl 1 rfl) ?_
        refine lv_sipush (v := nI (718)) hx hb dX4_changes_35 (by decide) ?_
        refine lv_iadd hx hb dX4_changes_38 ?_
        refine lv_tope (y := nI (i + 718)) (nI_add _ _) ?_
        refine va_iald hx hb hK hP 2 0 rfl rfl (vp_in_nI (by omega) (by omega)) dX4_changes_39 ?_
        refine lv_tope (y := (shGi g i) (i + 718)) (by rw [nI_clamp (by omega)]) ?_
        refine va_iast hx hb hK hP hD hS 2 0 rfl rfl (vp_in_nI (by omega) (by omega)) dX4_changes_40 (fun H locs hP hD hS => ?_)
        rw [nI_clamp (by omega)] at hP hD
        have hP : va_P D vwCl [(m0, .inr (4, [.ref sa, .ref pa, .ref ha, .int (nI (ps)), .int v4, .ref xa, .int v6, .int v7, .int v8, .int v9, .int v10, .int v11, .int v12, .ref ta])), (sa, .inl (dA 0, 718, .inl f)), (pa, .inl (dA 0, 2872, .inl (upd (shGi g i) i ((shGi g i) (i + 718))))), (ha, .inl (dA 0, 718, .inl h)), (xa, .inl (dA 0, 60, .inl tx)), (ta, .inl (dA 0, 3, .inl td))] H := hP
        have hD : va_D A [(m0, .inr (4, [.ref sa, .ref pa, .ref ha, .int (nI (ps)), .int v4, .ref xa, .int v6, .int v7, .int v8, .int v9, .int v10, .int v11, .int v12, .ref ta])), (sa, .inl (dA 0, 718, .inl f)), (pa, .inl (dA 0, 2872, .inl (upd (shGi g i) i ((shGi g i) (i + 718))))), (ha, .inl (dA 0, 718, .inl h)), (xa, .inl (dA 0, 60, .inl tx)), (ta, .inl (dA 0, 3, .inl td))] := hD
        rw [show (upd (shGi g i) i ((shGi g i) (i + 718)) : Nat → Int32) = shGi g (i + 1) from shGi_step _ _] at hP hD
        refine lv_iinc (v := nI (i + 1)) (lv' := [(1, .int (nI (i + 1))), (0, .ref m0)]) hx hb dX4_changes_41 hl (k := 1) rfl (nI_add _ _) (by decide) rfl (fun ls hl => ?_)
        refine lv_goto (tgt := 18) hx hb dX4_changes_44 (by decide) ?_
        exact ih_18 (i + 1) H locs ls ⟨hP, hD.same rfl, hS, (lv_sub (l' := [(0, .ref m0), (1, .int (nI ((i + 1))))]) hl [1, 0] rfl), by omega⟩ (by omega)
  · exact z_vret hx hb hr hS (by rw [chP_r (by assumption), chG_r (by assumption)]; exact ⟨trivial, hP⟩) (by omega) (by omega) dX4_changes_7

set_option maxHeartbeats 4000000 in
set_option maxRecDepth 100000 in
theorem mX4_open (l : Launch) (D : va_G) (dA : Nat → ClassId) (ad : Nat → Nat) (A : Nat → Prop) (sz : Nat) (m0 : Nat) (sa : Nat) (pa : Nat) (ha : Nat) (xa : Nat) (ta : Nat) (v4 : Int32) (v6 : Int32) (v7 : Int32) (v8 : Int32) (v9 : Int32) (v10 : Int32) (v11 : Int32) (v12 : Int32) (f : Nat → Int32) (ps : Nat) (g : Nat → Int32) (h : Nat → Int32) (tx : Nat → Int32) (td : Nat → Int32) (sl : Int32) (hA : ∀ q, sz ≤ q → A q) (hp4 : ps ≤ 4) (hI : InvA f) (hD : va_D A [(m0, .inr (4, [.ref sa, .ref pa, .ref ha, .int (nI (ps)), .int v4, .ref xa, .int v6, .int v7, .int v8, .int v9, .int v10, .int v11, .int v12, .ref ta])), (sa, .inl (dA 0, 718, .inl f)), (pa, .inl (dA 0, 2872, .inl g)), (ha, .inl (dA 0, 718, .inl h)), (xa, .inl (dA 0, 60, .inl tx)), (ta, .inl (dA 0, 3, .inl td))]) : Met l yX4_open (ws_ yX4_open cX4_open 2 (some .int)) ({ frames := 2, cells := 0, slots := 0, locals := 60 }) (va_Pc [.ref m0, .int sl] (zP D dA ad A sz (fun H => va_P D vwCl [(m0, .inr (4, [.ref sa, .ref pa, .ref ha, .int (nI (ps)), .int v4, .ref xa, .int v6, .int v7, .int v8, .int v9, .int v10, .int v11, .int v12, .ref ta])), (sa, .inl (dA 0, 718, .inl f)), (pa, .inl (dA 0, 2872, .inl g)), (ha, .inl (dA 0, 718, .inl h)), (xa, .inl (dA 0, 60, .inl tx)), (ta, .inl (dA 0, 3, .inl td))] H))) (zQi (fun rz H => rz = (oOpen f sl).2.1 ∧ va_P D vwCl [(m0, .inr (4, [.ref sa, .ref pa, .ref ha, .int (nI (gP (oOpen f sl).1 v4 ps)), .int v4, .ref xa, .int v6, .int v7, .int v8, .int v9, .int v10, .int v11, .int v12, .ref ta])), (sa, .inl (dA 0, 718, .inl ((oOpen f sl).2.2))), (pa, .inl (dA 0, 2872, .inl (gG (oOpen f sl).1 v4 f g ps))), (ha, .inl (dA 0, 718, .inl h)), (xa, .inl (dA 0, 60, .inl tx)), (ta, .inl (dA 0, 3, .inl td))] H) A) (0) (0) A := by
  refine Met.ofW (cc := cX4_open) (maxL := 2) (ret := (some .int)) (by decide) rfl ?_
  intro p e s m args below meth c s₁ B hml hv
  obtain ⟨rfl, hsz, hC, hP⟩ := hv
  have hx := B.exec
  have hb := B.bytes
  have hr := B.returns
  have hts := atoms_spec (ws := ws_ yX4_open cX4_open 2 (some .int)) B.pre
  have hts : ∀ w ∈ lw_all, w.before _ s = true := fun w h => hts w (List.mem_cons_of_mem _ h)
  have hown : s.vm.findClass RX4 = some m.cls := findClass_of_methodNamed B.named
  have hlocks := B.notSynchronized
  subst hsz
  have hK := hC.K
  have hS : va_S A s.heap s.heap [] := va_S.rf
  have hP : va_P D vwCl [(m0, .inr (4, [.ref sa, .ref pa, .ref ha, .int (nI (ps)), .int v4, .ref xa, .int v6, .int v7, .int v8, .int v9, .int v10, .int v11, .int v12, .ref ta])), (sa, .inl (dA 0, 718, .inl f)), (pa, .inl (dA 0, 2872, .inl g)), (ha, .inl (dA 0, 718, .inl h)), (xa, .inl (dA 0, 60, .inl tx)), (ta, .inl (dA 0, 3, .inl td))] s.heap := hP
  have hl := lv_entry ([.ref m0, .int sl]) (n := 2) (Nat.le_of_ble_eq_true rfl)
  rw [lg_entry_eq]
  generalize (lg_sl ([.ref m0, .int sl]) ++ List.replicate (2 - (lg_sl ([.ref m0, .int sl])).length) Slot.unset).toArray = ls at hl ⊢
  have hl : lv_has ls 2 [(0, .ref m0), (1, .int sl)] := hl
  refine lv_iload_n hx hb dX4_open_0 rfl (lv_at hl 1 rfl) ?_
  refine z_cSi (As := [.int sl]) (rest := []) ⟨hx, hb, hml, hown, hts⟩ (mX4_isSlot l D dA ad s.heap.size sl) (va_cwS 1 hts (lw_S q1376 q1377 q67 q1378) rfl rfl rfl (by decide +kernel) ⟨Nat.le_of_ble_eq_true rfl, Nat.le_of_ble_eq_true rfl⟩) hC hS (fun _ h => hA _ (Nat.le_trans hS.1 h)) trivial rfl rfl hl.1 (Nat.le_of_ble_eq_true rfl) dX4_open_1 ⟨Nat.le_of_ble_eq_true rfl, Nat.le_of_ble_eq_true rfl⟩ (fun r_1 H locs hQ hF hS => ?_)
  have hP := va_P.ro hF hP
  obtain rfl : bI (nI (0) ≤ sl ∧ sl ≤ nI (2)) = r_1 := hQ.symm
  refine lv_if_ne (tgt := 10) hx hb dX4_open_4 (by decide) (fun c_2 => ?_) (fun c_2 => ?_)
  · have c_2 := bI_1.1 c_2
    obtain ⟨j, hj, rfl⟩ := zr_of (N := 2) c_2 (by decide)
    refine lv_aload_n hx hb dX4_open_10 rfl (lv_at hl 0 rfl) ?_
    refine va_get (D := D) (ci := 4) (v := .ref sa) (C := RX4) (T := TX4) (N := 14) hx hb hts in_X4 hown hK hP 0 rfl rfl 0 (by decide) (hts _ q1329) (fun _ h9 => h9) rfl dX4_open_11 ?_
    refine lv_bipush (v := nI (9)) hx hb dX4_open_14 (by decide) ?_
    refine lv_iload_n hx hb dX4_open_16 rfl (lv_at hl 1 rfl) ?_
    refine lv_iadd hx hb dX4_open_17 ?_
    refine lv_tope (y := nI (9 + j)) (nI_add _ _) ?_
    refine va_iald hx hb hK hP 1 0 rfl rfl (vp_in_nI (by omega) (by omega)) dX4_open_18 ?_
    refine lv_tope (y := f (9 + j)) (by rw [nI_clamp (by omega)]) ?_
    refine lv_if_le (tgt := 25) hx hb dX4_open_19 (by decide) (fun c_3 => ?_) (fun c_3 => ?_)
    · refine lv_aload_n hx hb dX4_open_25 rfl (lv_at hl 0 rfl) ?_
      refine z_cVv (As := []) (rest := []) ⟨hx, hb, hml, hown, hts⟩ (mX4_changes l D dA ad A H.size m0 sa pa ha xa ta v4 v6 v7 v8 v9 v10 v11 v12 f ps g h tx td (hA_up hA hS) (by omega) (hD.sub [0, 1, 2, 3, 4, 5] (by decide) rfl)) (cwV 0 hts (lw_V q1384 q1386 qs27 q67 q1387) rfl rfl rfl (by decide +kernel) ⟨Nat.le_of_ble_eq_true rfl, Nat.le_of_ble_eq_true rfl⟩) hC hS (fun _ h => h) (hP.sub (ws' := [(m0, .inr (4, [.ref sa, .ref pa, .ref ha, .int (nI (ps)), .int v4, .ref xa, .int v6, .int v7, .int v8, .int v9, .int v10, .int v11, .int v12, .ref ta])), (sa, .inl (dA 0, 718, .inl f)), (pa, .inl (dA 0, 2872, .inl g)), (ha, .inl (dA 0, 718, .inl h)), (xa, .inl (dA 0, 60, .inl tx)), (ta, .inl (dA 0, 3, .inl td))]) [0, 1, 2, 3, 4, 5] rfl) (va_recv hK hP (ci := 4) (q0 := 0) rfl rfl) rfl rfl hl.1 (Nat.le_of_ble_eq_true rfl) dX4_open_26 ⟨Nat.le_of_ble_eq_true rfl, Nat.le_of_ble_eq_true rfl⟩ (fun H locs hQ hF hS => ?_)
      obtain ⟨hQ, hP⟩ := hQ
      have hD := va_D.same (ws' := [(m0, .inr (4, [.ref sa, .ref pa, .ref ha, .int (nI (chP v4 ps)), .int v4, .ref xa, .int v6, .int v7, .int v8, .int v9, .int v10, .int v11, .int v12, .ref ta])), (sa, .inl (dA 0, 718, .inl f)), (pa, .inl (dA 0, 2872, .inl (chG v4 f g ps))), (ha, .inl (dA 0, 718, .inl h)), (xa, .inl (dA 0, 60, .inl tx)), (ta, .inl (dA 0, 3, .inl td))]) (hD.sub (ws' := [(m0, .inr (4, [.ref sa, .ref pa, .ref ha, .int (nI (ps)), .int v4, .ref xa, .int v6, .int v7, .int v8, .int v9, .int v10, .int v11, .int v12, .ref ta])), (sa, .inl (dA 0, 718, .inl f)), (pa, .inl (dA 0, 2872, .inl g)), (ha, .inl (dA 0, 718, .inl h)), (xa, .inl (dA 0, 60, .inl tx)), (ta, .inl (dA 0, 3, .inl td))]) [0, 1, 2, 3, 4, 5] (by decide) rfl) rfl
      have hP : va_P D vwCl [(m0, .inr (4, [.ref sa, .ref pa, .ref ha, .int (nI (chP v4 ps)), .int v4, .ref xa, .int v6, .int v7, .int v8, .int v9, .int v10, .int v11, .int v12, .ref ta])), (sa, .inl (dA 0, 718, .inl f)), (pa, .inl (dA 0, 2872, .inl (chG v4 f g ps))), (ha, .inl (dA 0, 718, .inl h)), (xa, .inl (dA 0, 60, .inl tx)), (ta, .inl (dA 0, 3, .inl td))] H := hP
      have hD : va_D A [(m0, .inr (4, [.ref sa, .ref pa, .ref ha, .int (nI (chP v4 ps)), .int v4, .ref xa, .int v6, .int v7, .int v8, .int v9, .int v10, .int v11, .int v12, .ref ta])), (sa, .inl (dA 0, 718, .inl f)), (pa, .inl (dA 0, 2872, .inl (chG v4 f g ps))), (ha, .inl (dA 0, 718, .inl h)), (xa, .inl (dA 0, 60, .inl tx)), (ta, .inl (dA 0, 3, .inl td))] := hD
      refine lv_aload_n hx hb dX4_open_29 rfl (lv_at hl 0 rfl) ?_
      refine va_get (D := D) (ci := 4) (v := .ref sa) (C := RX4) (T := TX4) (N := 14) hx hb hts in_X4 hown hK hP 0 rfl rfl 0 (by decide) (hts _ q1329) (fun _ h9 => h9) rfl dX4_open_30 ?_
      refine lv_iconst (v := nI (3)) hx hb dX4_open_33 (by decide) ?_
      refine lv_dup2_11 hx hb dX4_open_34 rfl rfl ?_
      refine va_iald hx hb hK hP 1 0 rfl rfl (vp_in_nI (by omega) (by omega)) dX4_open_35 ?_
      refine lv_tope (y := f 3) (by rw [nI_clamp (by omega)]) ?_
      refine lv_tope (y := f 3) (rfl) ?_
      refine lv_iconst (v := nI (1)) hx hb dX4_open_36 (by decide) ?_
      refine lv_iadd hx hb dX4_open_37 ?_
      refine va_iast hx hb hK hP hD hS 1 0 rfl rfl (vp_in_nI (by omega) (by omega)) dX4_open_38 (fun H locs hP hD hS => ?_)
      rw [nI_clamp (by omega)] at hP hD
      have hP : va_P D vwCl [(m0, .inr (4, [.ref sa, .ref pa, .ref ha, .int (nI (chP v4 ps)), .int v4, .ref xa, .int v6, .int v7, .int v8, .int v9, .int v10, .int v11, .int v12, .ref ta])), (sa, .inl (dA 0, 718, .inl (upd f 3 ((f 3) + (nI (1)))))), (pa, .inl (dA 0, 2872, .inl (chG v4 f g ps))), (ha, .inl (dA 0, 718, .inl h)), (xa, .inl (dA 0, 60, .inl tx)), (ta, .inl (dA 0, 3, .inl td))] H := hP
      have hD : va_D A [(m0, .inr (4, [.ref sa, .ref pa, .ref ha, .int (nI (chP v4 ps)), .int v4, .ref xa, .int v6, .int v7, .int v8, .int v9, .int v10, .int v11, .int v12, .ref ta])), (sa, .inl (dA 0, 718, .inl (upd f 3 ((f 3) + (nI (1)))))), (pa, .inl (dA 0, 2872, .inl (chG v4 f g ps))), (ha, .inl (dA 0, 718, .inl h)), (xa, .inl (dA 0, 60, .inl tx)), (ta, .inl (dA 0, 3, .inl td))] := hD
      refine lv_aload_n hx hb dX4_open_39 rfl (lv_at hl 0 rfl) ?_
      refine va_get (D := D) (ci := 4) (v := .ref sa) (C := RX4) (T := TX4) (N := 14) hx hb hts in_X4 hown hK hP 0 rfl rfl 0 (by decide) (hts _ q1329) (fun _ h9 => h9) rfl dX4_open_40 ?_
      refine lv_bipush (v := nI (9)) hx hb dX4_open_43 (by decide) ?_
      refine lv_iload_n hx hb dX4_open_45 rfl (lv_at hl 1 rfl) ?_
      refine lv_iadd hx hb dX4_open_46 ?_
      refine lv_tope (y := nI (9 + j)) (nI_add _ _) ?_
      refine lv_aload_n hx hb dX4_open_47 rfl (lv_at hl 0 rfl) ?_
      refine va_get (D := D) (ci := 4) (v := .ref sa) (C := RX4) (T := TX4) (N := 14) hx hb hts in_X4 hown hK hP 0 rfl rfl 0 (by decide) (hts _ q1329) (fun _ h9 => h9) rfl dX4_open_48 ?_
      refine lv_iconst (v := nI (3)) hx hb dX4_open_51 (by decide) ?_
      refine va_iald hx hb hK hP 1 0 rfl rfl (vp_in_nI (by omega) (by omega)) dX4_open_52 ?_
      refine lv_tope (y := (upd f 3 ((f 3) + (nI (1)))) 3) (by rw [nI_clamp (by omega)]) ?_
      refine lv_tope (y := f 3 + nI (1)) (rfl) ?_
      refine va_iast hx hb hK hP hD hS 1 0 rfl rfl (vp_in_nI (by omega) (by omega)) dX4_open_53 (fun H locs hP hD hS => ?_)
      rw [nI_clamp (by omega)] at hP hD
      have hP : va_P D vwCl [(m0, .inr (4, [.ref sa, .ref pa, .ref ha, .int (nI (chP v4 ps)), .int v4, .ref xa, .int v6, .int v7, .int v8, .int v9, .int v10, .int v11, .int v12, .ref ta])), (sa, .inl (dA 0, 718, .inl (upd (upd f 3 ((f 3) + (nI (1)))) (9 + j) (f 3 + nI (1))))), (pa, .inl (dA 0, 2872, .inl (chG v4 f g ps))), (ha, .inl (dA 0, 718, .inl h)), (xa, .inl (dA 0, 60, .inl tx)), (ta, .inl (dA 0, 3, .inl td))] H := hP
      have hD : va_D A [(m0, .inr (4, [.ref sa, .ref pa, .ref ha, .int (nI (chP v4 ps)), .int v4, .ref xa, .int v6, .int v7, .int v8, .int v9, .int v10, .int v11, .int v12, .ref ta])), (sa, .inl (dA 0, 718, .inl (upd (upd f 3 ((f 3) + (nI (1)))) (9 + j) (f 3 + nI (1))))), (pa, .inl (dA 0, 2872, .inl (chG v4 f g ps))), (ha, .inl (dA 0, 718, .inl h)), (xa, .inl (dA 0, 60, .inl tx)), (ta, .inl (dA 0, 3, .inl td))] := hD
      refine lv_aload_n hx hb dX4_open_54 rfl (lv_at hl 0 rfl) ?_
      refine va_get (D := D) (ci := 4) (v := .ref sa) (C := RX4) (T := TX4) (N := 14) hx hb hts in_X4 hown hK hP 0 rfl rfl 0 (by decide) (hts _ q1329) (fun _ h9 => h9) rfl dX4_open_55 ?_
      refine lv_iconst (v := nI (3)) hx hb dX4_open_58 (by decide) ?_
      refine va_iald hx hb hK hP 1 0 rfl rfl (vp_in_nI (by omega) (by omega)) dX4_open_59 ?_
      refine lv_tope (y := (upd (upd f 3 ((f 3) + (nI (1)))) (9 + j) (f 3 + nI (1))) 3) (by rw [nI_clamp (by omega)]) ?_
      refine lv_tope (y := f 3 + nI (1)) (by simp only [upd]; repeat (first | rw [if_neg (by omega)] | rw [if_pos (by omega)])) ?_
      exact z_iret (v := f 3 + nI (1)) hx hb hr hS (by rw [show oOpen f (nI (j)) = (true, f 3 + nI (1), upd (upd f 3 ((f 3) + (nI (1)))) (9 + j) (f 3 + nI (1))) from by unfold oOpen; simp only [nI_clamp (show j < 2 ^ 31 by omega)]; (repeat' split) <;> first | rfl | contradiction | (exfalso; simp_all; done)]; exact ⟨rfl, hP⟩) (by omega) (by omega) dX4_open_60
    · refine lv_ldc (v := (-1000002)) hx hb hown (hts _ q1383) dX4_open_22 ?_
      exact z_iret (v := (-1000002)) hx hb hr hS (by rw [show oOpen f (nI (j)) = (false, (-1000002), f) from by unfold oOpen; simp only [nI_clamp (show j < 2 ^ 31 by omega)]; (repeat' split) <;> first | rfl | contradiction | (exfalso; simp_all; done)]; exact ⟨rfl, hP⟩) (by omega) (by omega) dX4_open_24
  · have c_2 := bI_0.1 c_2
    refine lv_ldc (v := (-1000001)) hx hb hown (hts _ q1382) dX4_open_7 ?_
    exact z_iret (v := (-1000001)) hx hb hr hS (by rw [show oOpen f sl = (false, (-1000001), f) from by unfold oOpen; (repeat' split) <;> first | rfl | contradiction | (exfalso; simp_all; done)]; exact ⟨rfl, hP⟩) (by omega) (by omega) dX4_open_9

set_option maxHeartbeats 4000000 in
set_option maxRecDepth 100000 in
theorem mX4_bar (l : Launch) (D : va_G) (dA : Nat → ClassId) (ad : Nat → Nat) (sz : Nat) (m0 : Nat) (sa : Nat) (pa : Nat) (ha : Nat) (xa : Nat) (ta : Nat) (v3 : Int32) (v4 : Int32) (v6 : Int32) (v7 : Int32) (v8 : Int32) (v9 : Int32) (v10 : Int32) (v11 : Int32) (v12 : Int32) (f : Nat → Int32) (sl : Int32) : Met l yX4_bar (ws_ yX4_bar cX4_bar 2 (some .int)) ({ frames := 2, cells := 0, slots := 0, locals := 60 }) (va_Pc [.ref m0, .int sl] (zP D dA ad (fun q => sz ≤ q) sz (fun H => va_P D vwCl [(m0, .inr (4, [.ref sa, .ref pa, .ref ha, .int v3, .int v4, .ref xa, .int v6, .int v7, .int v8, .int v9, .int v10, .int v11, .int v12, .ref ta])), (sa, .inl (dA 0, 718, .inl f))] H))) (zQi (fun rz H => rz = aBar f sl) (fun q => sz ≤ q)) (0) (0) (fun q => sz ≤ q) := by
  refine Met.ofW (cc := cX4_bar) (maxL := 2) (ret := (some .int)) (by decide) rfl ?_
  intro p e s m args below meth c s₁ B hml hv
  obtain ⟨rfl, hsz, hC, hP⟩ := hv
  have hx := B.exec
  have hb := B.bytes
  have hr := B.returns
  have hts := atoms_spec (ws := ws_ yX4_bar cX4_bar 2 (some .int)) B.pre
  have hts : ∀ w ∈ lw_all, w.before _ s = true := fun w h => hts w (List.mem_cons_of_mem _ h)
  have hown : s.vm.findClass RX4 = some m.cls := findClass_of_methodNamed B.named
  have hlocks := B.notSynchronized
  subst hsz
  have hK := hC.K
  have hA : ∀ q : Nat, s.heap.size ≤ q → s.heap.size ≤ q := fun _ h => h
  have hS : va_S (fun q => s.heap.size ≤ q) s.heap s.heap [] := va_S.rf
  have hP : va_P D vwCl [(m0, .inr (4, [.ref sa, .ref pa, .ref ha, .int v3, .int v4, .ref xa, .int v6, .int v7, .int v8, .int v9, .int v10, .int v11, .int v12, .ref ta])), (sa, .inl (dA 0, 718, .inl f))] s.heap := hP
  have hl := lv_entry ([.ref m0, .int sl]) (n := 2) (Nat.le_of_ble_eq_true rfl)
  rw [lg_entry_eq]
  generalize (lg_sl ([.ref m0, .int sl]) ++ List.replicate (2 - (lg_sl ([.ref m0, .int sl])).length) Slot.unset).toArray = ls at hl ⊢
  have hl : lv_has ls 2 [(0, .ref m0), (1, .int sl)] := hl
  refine lv_iload_n hx hb dX4_bar_0 rfl (lv_at hl 1 rfl) ?_
  refine z_cSi (As := [.int sl]) (rest := []) ⟨hx, hb, hml, hown, hts⟩ (mX4_isSlot l D dA ad s.heap.size sl) (va_cwS 1 hts (lw_S q1376 q1377 q67 q1378) rfl rfl rfl (by decide +kernel) ⟨Nat.le_of_ble_eq_true rfl, Nat.le_of_ble_eq_true rfl⟩) hC hS (fun _ h => hA _ (Nat.le_trans hS.1 h)) trivial rfl rfl hl.1 (Nat.le_of_ble_eq_true rfl) dX4_bar_1 ⟨Nat.le_of_ble_eq_true rfl, Nat.le_of_ble_eq_true rfl⟩ (fun r_1 H locs hQ hF hS => ?_)
  have hP := va_P.ro hF hP
  obtain rfl : bI (nI (0) ≤ sl ∧ sl ≤ nI (2)) = r_1 := hQ.symm
  refine lv_if_ne (tgt := 12) hx hb dX4_bar_4 (by decide) (fun c_2 => ?_) (fun c_2 => ?_)
  · have c_2 := bI_1.1 c_2
    obtain ⟨j, hj, rfl⟩ := zr_of (N := 2) c_2 (by decide)
    refine lv_aload_n hx hb dX4_bar_12 rfl (lv_at hl 0 rfl) ?_
    refine va_get (D := D) (ci := 4) (v := .ref sa) (C := RX4) (T := TX4) (N := 14) hx hb hts in_X4 hown hK hP 0 rfl rfl 0 (by decide) (hts _ q1329) (fun _ h9 => h9) rfl dX4_bar_13 ?_
    refine lv_bipush (v := nI (9)) hx hb dX4_bar_16 (by decide) ?_
    refine lv_iload_n hx hb dX4_bar_18 rfl (lv_at hl 1 rfl) ?_
    refine lv_iadd hx hb dX4_bar_19 ?_
    refine lv_tope (y := nI (9 + j)) (nI_add _ _) ?_
    refine va_iald hx hb hK hP 1 0 rfl rfl (vp_in_nI (by omega) (by omega)) dX4_bar_20 ?_
    refine lv_tope (y := f (9 + j)) (by rw [nI_clamp (by omega)]) ?_
    refine lv_if_ne (tgt := 29) hx hb dX4_bar_21 (by decide) (fun c_3 => ?_) (fun c_3 => ?_)
    · refine lv_aload_n hx hb dX4_bar_29 rfl (lv_at hl 0 rfl) ?_
      refine va_get (D := D) (ci := 4) (v := .ref sa) (C := RX4) (T := TX4) (N := 14) hx hb hts in_X4 hown hK hP 0 rfl rfl 0 (by decide) (hts _ q1329) (fun _ h9 => h9) rfl dX4_bar_30 ?_
      refine lv_iconst (v := nI (0)) hx hb dX4_bar_33 (by decide) ?_
      refine va_iald hx hb hK hP 1 0 rfl rfl (vp_in_nI (by omega) (by omega)) dX4_bar_34 ?_
      refine lv_tope (y := f 0) (by rw [nI_clamp (by omega)]) ?_
      refine lv_bipush (v := nI (100)) hx hb dX4_bar_35 (by decide) ?_
      refine lv_icmp_ne (tgt := 45) hx hb dX4_bar_37 (by decide) (fun c_4 => ?_) (fun c_4 => ?_)
      · refine lv_iconst (v := nI (0)) hx hb dX4_bar_45 (by decide) ?_
        exact z_iret (v := nI (0)) hx hb hr hS (by unfold aBar; simp only [nI_clamp (show j < 2 ^ 31 by omega)]; (repeat' split) <;> first | rfl | contradiction | (exfalso; simp_all; done)) (by omega) (by omega) dX4_bar_46
      · refine lv_ldc (v := (-1000003)) hx hb hown (hts _ q1399) dX4_bar_40 ?_
        refine lv_goto (tgt := 46) hx hb dX4_bar_42 (by decide) ?_
        exact z_iret (v := (-1000003)) hx hb hr hS (by unfold aBar; simp only [nI_clamp (show j < 2 ^ 31 by omega)]; (repeat' split) <;> first | rfl | contradiction | (exfalso; simp_all; done)) (by omega) (by omega) dX4_bar_46
    · refine lv_ldc (v := (-1000002)) hx hb hown (hts _ q1383) dX4_bar_24 ?_
      refine lv_goto (tgt := 46) hx hb dX4_bar_26 (by decide) ?_
      exact z_iret (v := (-1000002)) hx hb hr hS (by unfold aBar; simp only [nI_clamp (show j < 2 ^ 31 by omega)]; (repeat' split) <;> first | rfl | contradiction | (exfalso; simp_all; done)) (by omega) (by omega) dX4_bar_46
  · have c_2 := bI_0.1 c_2
    refine lv_ldc (v := (-1000001)) hx hb hown (hts _ q1382) dX4_bar_7 ?_
    refine lv_goto (tgt := 46) hx hb dX4_bar_9 (by decide) ?_
    exact z_iret (v := (-1000001)) hx hb hr hS (by unfold aBar; (repeat' split) <;> first | rfl | contradiction | (exfalso; simp_all; done)) (by omega) (by omega) dX4_bar_46

set_option maxHeartbeats 4000000 in
set_option maxRecDepth 100000 in
theorem mX4_writes (l : Launch) (D : va_G) (dA : Nat → ClassId) (ad : Nat → Nat) (A : Nat → Prop) (sz : Nat) (m0 : Nat) (sa : Nat) (pa : Nat) (ha : Nat) (xa : Nat) (ta : Nat) (v4 : Int32) (v6 : Int32) (v7 : Int32) (v8 : Int32) (v9 : Int32) (v10 : Int32) (v11 : Int32) (v12 : Int32) (f : Nat → Int32) (ps : Nat) (g : Nat → Int32) (h : Nat → Int32) (tx : Nat → Int32) (td : Nat → Int32) (kind : Nat) (j : Nat) (key : Int32) (v : Int32) (hA : ∀ q, sz ≤ q → A q) (hp4 : ps ≤ 4) (hI : InvA f) (hn9 : rN f < 100) (hk : kind ≤ 2) (hj : j ≤ 2) (hD : va_D A [(m0, .inr (4, [.ref sa, .ref pa, .ref ha, .int (nI (ps)), .int v4, .ref xa, .int v6, .int v7, .int v8, .int v9, .int v10, .int v11, .int v12, .ref ta])), (sa, .inl (dA 0, 718, .inl f)), (pa, .inl (dA 0, 2872, .inl g)), (ha, .inl (dA 0, 718, .inl h)), (xa, .inl (dA 0, 60, .inl tx)), (ta, .inl (dA 0, 3, .inl td))]) : Met l yX4_writes (ws_ yX4_writes cX4_writes 6 (some .int)) ({ frames := 1, cells := 0, slots := 0, locals := 30 }) (va_Pc [.ref m0, .int (nI (kind)), .int (nI (j)), .int key, .int v] (zP D dA ad A sz (fun H => va_P D vwCl [(m0, .inr (4, [.ref sa, .ref pa, .ref ha, .int (nI (ps)), .int v4, .ref xa, .int v6, .int v7, .int v8, .int v9, .int v10, .int v11, .int v12, .ref ta])), (sa, .inl (dA 0, 718, .inl f)), (pa, .inl (dA 0, 2872, .inl g)), (ha, .inl (dA 0, 718, .inl h)), (xa, .inl (dA 0, 60, .inl tx)), (ta, .inl (dA 0, 3, .inl td))] H))) (zQi (fun rz H => rz = nI (rN f + 1) ∧ va_P D vwCl [(m0, .inr (4, [.ref sa, .ref pa, .ref ha, .int (nI (chP v4 ps)), .int v4, .ref xa, .int v6, .int v7, .int v8, .int v9, .int v10, .int v11, .int v12, .ref ta])), (sa, .inl (dA 0, 718, .inl (wrF f kind j key v))), (pa, .inl (dA 0, 2872, .inl (chG v4 f g ps))), (ha, .inl (dA 0, 718, .inl h)), (xa, .inl (dA 0, 60, .inl tx)), (ta, .inl (dA 0, 3, .inl td))] H) A) (0) (0) A := by
  refine Met.ofW (cc := cX4_writes) (maxL := 6) (ret := (some .int)) (by decide) rfl ?_
  intro p e s m args below meth c s₁ B hml hv
  obtain ⟨rfl, hsz, hC, hP⟩ := hv
  have hx := B.exec
  have hb := B.bytes
  have hr := B.returns
  have hts := atoms_spec (ws := ws_ yX4_writes cX4_writes 6 (some .int)) B.pre
  have hts : ∀ w ∈ lw_all, w.before _ s = true := fun w h => hts w (List.mem_cons_of_mem _ h)
  have hown : s.vm.findClass RX4 = some m.cls := findClass_of_methodNamed B.named
  have hlocks := B.notSynchronized
  subst hsz
  have hK := hC.K
  have hS : va_S A s.heap s.heap [] := va_S.rf
  have hP : va_P D vwCl [(m0, .inr (4, [.ref sa, .ref pa, .ref ha, .int (nI (ps)), .int v4, .ref xa, .int v6, .int v7, .int v8, .int v9, .int v10, .int v11, .int v12, .ref ta])), (sa, .inl (dA 0, 718, .inl f)), (pa, .inl (dA 0, 2872, .inl g)), (ha, .inl (dA 0, 718, .inl h)), (xa, .inl (dA 0, 60, .inl tx)), (ta, .inl (dA 0, 3, .inl td))] s.heap := hP
  obtain ⟨hf0, hn, hsb, hrt, hrt2⟩ := hI
  have hl := lv_entry ([.ref m0, .int (nI (kind)), .int (nI (j)), .int key, .int v]) (n := 6) (Nat.le_of_ble_eq_true rfl)
  rw [lg_entry_eq]
  generalize (lg_sl ([.ref m0, .int (nI (kind)), .int (nI (j)), .int key, .int v]) ++ List.replicate (6 - (lg_sl ([.ref m0, .int (nI (kind)), .int (nI (j)), .int key, .int v])).length) Slot.unset).toArray = ls at hl ⊢
  have hl : lv_has ls 6 [(0, .ref m0), (1, .int (nI (kind))), (2, .int (nI (j))), (3, .int key), (4, .int v)] := hl
  refine lv_aload_n hx hb dX4_writes_0 rfl (lv_at hl 0 rfl) ?_
  refine z_cVv (As := []) (rest := []) ⟨hx, hb, hml, hown, hts⟩ (mX4_changes l D dA ad A s.heap.size m0 sa pa ha xa ta v4 v6 v7 v8 v9 v10 v11 v12 f ps g h tx td (hA_up hA hS) (by omega) (hD.sub [0, 1, 2, 3, 4, 5] (by decide) rfl)) (cwV 0 hts (lw_V q1384 q1386 qs27 q67 q1387) rfl rfl rfl (by decide +kernel) ⟨Nat.le_of_ble_eq_true rfl, Nat.le_of_ble_eq_true rfl⟩) hC hS (fun _ h => h) (hP.sub (ws' := [(m0, .inr (4, [.ref sa, .ref pa, .ref ha, .int (nI (ps)), .int v4, .ref xa, .int v6, .int v7, .int v8, .int v9, .int v10, .int v11, .int v12, .ref ta])), (sa, .inl (dA 0, 718, .inl f)), (pa, .inl (dA 0, 2872, .inl g)), (ha, .inl (dA 0, 718, .inl h)), (xa, .inl (dA 0, 60, .inl tx)), (ta, .inl (dA 0, 3, .inl td))]) [0, 1, 2, 3, 4, 5] rfl) (va_recv hK hP (ci := 4) (q0 := 0) rfl rfl) rfl rfl hl.1 (Nat.le_of_ble_eq_true rfl) dX4_writes_1 ⟨Nat.le_of_ble_eq_true rfl, Nat.le_of_ble_eq_true rfl⟩ (fun H locs hQ hF hS => ?_)
  obtain ⟨hQ, hP⟩ := hQ
  have hD := va_D.same (ws' := [(m0, .inr (4, [.ref sa, .ref pa, .ref ha, .int (nI (chP v4 ps)), .int v4, .ref xa, .int v6, .int v7, .int v8, .int v9, .int v10, .int v11, .int v12, .ref ta])), (sa, .inl (dA 0, 718, .inl f)), (pa, .inl (dA 0, 2872, .inl (chG v4 f g ps))), (ha, .inl (dA 0, 718, .inl h)), (xa, .inl (dA 0, 60, .inl tx)), (ta, .inl (dA 0, 3, .inl td))]) (hD.sub (ws' := [(m0, .inr (4, [.ref sa, .ref pa, .ref ha, .int (nI (ps)), .int v4, .ref xa, .int v6, .int v7, .int v8, .int v9, .int v10, .int v11, .int v12, .ref ta])), (sa, .inl (dA 0, 718, .inl f)), (pa, .inl (dA 0, 2872, .inl g)), (ha, .inl (dA 0, 718, .inl h)), (xa, .inl (dA 0, 60, .inl tx)), (ta, .inl (dA 0, 3, .inl td))]) [0, 1, 2, 3, 4, 5] (by decide) rfl) rfl
  have hP : va_P D vwCl [(m0, .inr (4, [.ref sa, .ref pa, .ref ha, .int (nI (chP v4 ps)), .int v4, .ref xa, .int v6, .int v7, .int v8, .int v9, .int v10, .int v11, .int v12, .ref ta])), (sa, .inl (dA 0, 718, .inl f)), (pa, .inl (dA 0, 2872, .inl (chG v4 f g ps))), (ha, .inl (dA 0, 718, .inl h)), (xa, .inl (dA 0, 60, .inl tx)), (ta, .inl (dA 0, 3, .inl td))] H := hP
  have hD : va_D A [(m0, .inr (4, [.ref sa, .ref pa, .ref ha, .int (nI (chP v4 ps)), .int v4, .ref xa, .int v6, .int v7, .int v8, .int v9, .int v10, .int v11, .int v12, .ref ta])), (sa, .inl (dA 0, 718, .inl f)), (pa, .inl (dA 0, 2872, .inl (chG v4 f g ps))), (ha, .inl (dA 0, 718, .inl h)), (xa, .inl (dA 0, 60, .inl tx)), (ta, .inl (dA 0, 3, .inl td))] := hD
  refine lv_aload_n hx hb dX4_writes_4 rfl (lv_at hl 0 rfl) ?_
  refine va_get (D := D) (ci := 4) (v := .ref sa) (C := RX4) (T := TX4) (N := 14) hx hb hts in_X4 hown hK hP 0 rfl rfl 0 (by decide) (hts _ q1329) (fun _ h9 => h9) rfl dX4_writes_5 ?_
  refine lv_iconst (v := nI (0)) hx hb dX4_writes_8 (by decide) ?_
  refine lv_dup2_11 hx hb dX4_writes_9 rfl rfl ?_
  refine va_iald hx hb hK hP 1 0 rfl rfl (vp_in_nI (by omega) (by omega)) dX4_writes_10 ?_
  refine lv_tope (y := f 0) (by rw [nI_clamp (by omega)]) ?_
  refine lv_tope (y := nI (rN f)) (hf0) ?_
  refine lv_iconst (v := nI (1)) hx hb dX4_writes_11 (by decide) ?_
  refine lv_iadd hx hb dX4_writes_12 ?_
  refine lv_tope (y := nI ((rN f) + 1)) (nI_add _ _) ?_
  refine va_iast hx hb hK hP hD hS 1 0 rfl rfl (vp_in_nI (by omega) (by omega)) dX4_writes_13 (fun H locs hP hD hS => ?_)
  rw [nI_clamp (by omega)] at hP hD
  have hP : va_P D vwCl [(m0, .inr (4, [.ref sa, .ref pa, .ref ha, .int (nI (chP v4 ps)), .int v4, .ref xa, .int v6, .int v7, .int v8, .int v9, .int v10, .int v11, .int v12, .ref ta])), (sa, .inl (dA 0, 718, .inl (upd f 0 (nI ((rN f) + 1))))), (pa, .inl (dA 0, 2872, .inl (chG v4 f g ps))), (ha, .inl (dA 0, 718, .inl h)), (xa, .inl (dA 0, 60, .inl tx)), (ta, .inl (dA 0, 3, .inl td))] H := hP
  have hD : va_D A [(m0, .inr (4, [.ref sa, .ref pa, .ref ha, .int (nI (chP v4 ps)), .int v4, .ref xa, .int v6, .int v7, .int v8, .int v9, .int v10, .int v11, .int v12, .ref ta])), (sa, .inl (dA 0, 718, .inl (upd f 0 (nI ((rN f) + 1))))), (pa, .inl (dA 0, 2872, .inl (chG v4 f g ps))), (ha, .inl (dA 0, 718, .inl h)), (xa, .inl (dA 0, 60, .inl tx)), (ta, .inl (dA 0, 3, .inl td))] := hD
  refine lv_sipush (v := nI (218)) hx hb dX4_writes_14 (by decide) ?_
  refine lv_iconst (v := nI (5)) hx hb dX4_writes_17 (by decide) ?_
  refine lv_aload_n hx hb dX4_writes_18 rfl (lv_at hl 0 rfl) ?_
  refine va_get (D := D) (ci := 4) (v := .ref sa) (C := RX4) (T := TX4) (N := 14) hx hb hts in_X4 hown hK hP 0 rfl rfl 0 (by decide) (hts _ q1329) (fun _ h9 => h9) rfl dX4_writes_19 ?_
  refine lv_iconst (v := nI (0)) hx hb dX4_writes_22 (by decide) ?_
  refine va_iald hx hb hK hP 1 0 rfl rfl (vp_in_nI (by omega) (by omega)) dX4_writes_23 ?_
  refine lv_tope (y := (upd f 0 (nI ((rN f) + 1))) 0) (by rw [nI_clamp (by omega)]) ?_
  refine lv_tope (y := nI (rN f + 1)) (by simp only [upd]; repeat (first | rw [if_neg (by omega)] | rw [if_pos (by omega)])) ?_
  refine lv_imul hx hb dX4_writes_24 ?_
  refine lv_tope (y := nI (5 * (rN f + 1))) (pk_mul _ _) ?_
  refine lv_iadd hx hb dX4_writes_25 ?_
  refine lv_tope (y := nI (218 + (5 * (rN f + 1)))) (nI_add _ _) ?_
  refine lv_iconst (v := nI (5)) hx hb dX4_writes_26 (by decide) ?_
  refine lv_isub hx hb dX4_writes_27 ?_
  refine lv_tope (y := nI (213 + 5 * (rN f + 1))) (by rw [pk_sub (show 5 ≤ 218 + 5 * (rN f + 1) by omega), show 218 + 5 * (rN f + 1) - 5 = 213 + 5 * (rN f + 1) by omega]) ?_
  refine lv_istore (lv' := [(5, .int (nI (213 + 5 * (rN f + 1)))), (0, .ref m0), (1, .int (nI (kind))), (2, .int (nI (j))), (3, .int key), (4, .int v)]) hx hb dX4_writes_28 hl (by decide) rfl (fun ls hl => ?_)
  refine lv_aload_n hx hb dX4_writes_30 rfl (lv_at hl 1 rfl) ?_
  refine va_get (D := D) (ci := 4) (v := .ref sa) (C := RX4) (T := TX4) (N := 14) hx hb hts in_X4 hown hK hP 0 rfl rfl 0 (by decide) (hts _ q1329) (fun _ h9 => h9) rfl dX4_writes_31 ?_
  refine lv_iload hx hb dX4_writes_34 (lv_at hl 0 rfl) ?_
  refine lv_iconst (v := nI (0)) hx hb dX4_writes_36 (by decide) ?_
  refine lv_iadd hx hb dX4_writes_37 ?_
  refine lv_tope (y := nI ((213 + 5 * (rN f + 1)) + 0)) (nI_add _ _) ?_
  refine lv_iload_n hx hb dX4_writes_38 rfl (lv_at hl 2 rfl) ?_
  refine va_iast hx hb hK hP hD hS 1 0 rfl rfl (vp_in_nI (by omega) (by omega)) dX4_writes_39 (fun H locs hP hD hS => ?_)
  rw [nI_clamp (by omega)] at hP hD
  have hP : va_P D vwCl [(m0, .inr (4, [.ref sa, .ref pa, .ref ha, .int (nI (chP v4 ps)), .int v4, .ref xa, .int v6, .int v7, .int v8, .int v9, .int v10, .int v11, .int v12, .ref ta])), (sa, .inl (dA 0, 718, .inl (upd (upd f 0 (nI ((rN f) + 1))) ((213 + 5 * (rN f + 1)) + 0) (nI (kind))))), (pa, .inl (dA 0, 2872, .inl (chG v4 f g ps))), (ha, .inl (dA 0, 718, .inl h)), (xa, .inl (dA 0, 60, .inl tx)), (ta, .inl (dA 0, 3, .inl td))] H := hP
  have hD : va_D A [(m0, .inr (4, [.ref sa, .ref pa, .ref ha, .int (nI (chP v4 ps)), .int v4, .ref xa, .int v6, .int v7, .int v8, .int v9, .int v10, .int v11, .int v12, .ref ta])), (sa, .inl (dA 0, 718, .inl (upd (upd f 0 (nI ((rN f) + 1))) ((213 + 5 * (rN f + 1)) + 0) (nI (kind))))), (pa, .inl (dA 0, 2872, .inl (chG v4 f g ps))), (ha, .inl (dA 0, 718, .inl h)), (xa, .inl (dA 0, 60, .inl tx)), (ta, .inl (dA 0, 3, .inl td))] := hD
  refine lv_aload_n hx hb dX4_writes_40 rfl (lv_at hl 1 rfl) ?_
  refine va_get (D := D) (ci := 4) (v := .ref sa) (C := RX4) (T := TX4) (N := 14) hx hb hts in_X4 hown hK hP 0 rfl rfl 0 (by decide) (hts _ q1329) (fun _ h9 => h9) rfl dX4_writes_41 ?_
  refine lv_iload hx hb dX4_writes_44 (lv_at hl 0 rfl) ?_
  refine lv_iconst (v := nI (1)) hx hb dX4_writes_46 (by decide) ?_
  refine lv_iadd hx hb dX4_writes_47 ?_
  refine lv_tope (y := nI ((213 + 5 * (rN f + 1)) + 1)) (nI_add _ _) ?_
  refine lv_aload_n hx hb dX4_writes_48 rfl (lv_at hl 1 rfl) ?_
  refine va_get (D := D) (ci := 4) (v := .ref sa) (C := RX4) (T := TX4) (N := 14) hx hb hts in_X4 hown hK hP 0 rfl rfl 0 (by decide) (hts _ q1329) (fun _ h9 => h9) rfl dX4_writes_49 ?_
  refine lv_bipush (v := nI (9)) hx hb dX4_writes_52 (by decide) ?_
  refine lv_iload_n hx hb dX4_writes_54 rfl (lv_at hl 3 rfl) ?_
  refine lv_iadd hx hb dX4_writes_55 ?_
  refine lv_tope (y := nI (9 + j)) (nI_add _ _) ?_
  refine va_iald hx hb hK hP 1 0 rfl rfl (vp_in_nI (by omega) (by omega)) dX4_writes_56 ?_
  refine lv_tope (y := (upd (upd f 0 (nI ((rN f) + 1))) ((213 + 5 * (rN f + 1)) + 0) (nI (kind))) (9 + j)) (by rw [nI_clamp (by omega)]) ?_
  refine lv_tope (y := f (9 + j)) (by simp only [upd]; repeat (first | rw [if_neg (by omega)] | rw [if_pos (by omega)])) ?_
  refine va_iast hx hb hK hP hD hS 1 0 rfl rfl (vp_in_nI (by omega) (by omega)) dX4_writes_57 (fun H locs hP hD hS => ?_)
  rw [nI_clamp (by omega)] at hP hD
  have hP : va_P D vwCl [(m0, .inr (4, [.ref sa, .ref pa, .ref ha, .int (nI (chP v4 ps)), .int v4, .ref xa, .int v6, .int v7, .int v8, .int v9, .int v10, .int v11, .int v12, .ref ta])), (sa, .inl (dA 0, 718, .inl (upd (upd (upd f 0 (nI ((rN f) + 1))) ((213 + 5 * (rN f + 1)) + 0) (nI (kind))) ((213 + 5 * (rN f + 1)) + 1) (f (9 + j))))), (pa, .inl (dA 0, 2872, .inl (chG v4 f g ps))), (ha, .inl (dA 0, 718, .inl h)), (xa, .inl (dA 0, 60, .inl tx)), (ta, .inl (dA 0, 3, .inl td))] H := hP
  have hD : va_D A [(m0, .inr (4, [.ref sa, .ref pa, .ref ha, .int (nI (chP v4 ps)), .int v4, .ref xa, .int v6, .int v7, .int v8, .int v9, .int v10, .int v11, .int v12, .ref ta])), (sa, .inl (dA 0, 718, .inl (upd (upd (upd f 0 (nI ((rN f) + 1))) ((213 + 5 * (rN f + 1)) + 0) (nI (kind))) ((213 + 5 * (rN f + 1)) + 1) (f (9 + j))))), (pa, .inl (dA 0, 2872, .inl (chG v4 f g ps))), (ha, .inl (dA 0, 718, .inl h)), (xa, .inl (dA 0, 60, .inl tx)), (ta, .inl (dA 0, 3, .inl td))] := hD
  refine lv_aload_n hx hb dX4_writes_58 rfl (lv_at hl 1 rfl) ?_
  refine va_get (D := D) (ci := 4) (v := .ref sa) (C := RX4) (T := TX4) (N := 14) hx hb hts in_X4 hown hK hP 0 rfl rfl 0 (by decide) (hts _ q1329) (fun _ h9 => h9) rfl dX4_writes_59 ?_
  refine lv_iload hx hb dX4_writes_62 (lv_at hl 0 rfl) ?_
  refine lv_iconst (v := nI (2)) hx hb dX4_writes_64 (by decide) ?_
  refine lv_iadd hx hb dX4_writes_65 ?_
  refine lv_tope (y := nI ((213 + 5 * (rN f + 1)) + 2)) (nI_add _ _) ?_
  refine lv_iload_n hx hb dX4_writes_66 rfl (lv_at hl 4 rfl) ?_
  refine va_iast hx hb hK hP hD hS 1 0 rfl rfl (vp_in_nI (by omega) (by omega)) dX4_writes_67 (fun H locs hP hD hS => ?_)
  rw [nI_clamp (by omega)] at hP hD
  have hP : va_P D vwCl [(m0, .inr (4, [.ref sa, .ref pa, .ref ha, .int (nI (chP v4 ps)), .int v4, .ref xa, .int v6, .int v7, .int v8, .int v9, .int v10, .int v11, .int v12, .ref ta])), (sa, .inl (dA 0, 718, .inl (upd (upd (upd (upd f 0 (nI ((rN f) + 1))) ((213 + 5 * (rN f + 1)) + 0) (nI (kind))) ((213 + 5 * (rN f + 1)) + 1) (f (9 + j))) ((213 + 5 * (rN f + 1)) + 2) key))), (pa, .inl (dA 0, 2872, .inl (chG v4 f g ps))), (ha, .inl (dA 0, 718, .inl h)), (xa, .inl (dA 0, 60, .inl tx)), (ta, .inl (dA 0, 3, .inl td))] H := hP
  have hD : va_D A [(m0, .inr (4, [.ref sa, .ref pa, .ref ha, .int (nI (chP v4 ps)), .int v4, .ref xa, .int v6, .int v7, .int v8, .int v9, .int v10, .int v11, .int v12, .ref ta])), (sa, .inl (dA 0, 718, .inl (upd (upd (upd (upd f 0 (nI ((rN f) + 1))) ((213 + 5 * (rN f + 1)) + 0) (nI (kind))) ((213 + 5 * (rN f + 1)) + 1) (f (9 + j))) ((213 + 5 * (rN f + 1)) + 2) key))), (pa, .inl (dA 0, 2872, .inl (chG v4 f g ps))), (ha, .inl (dA 0, 718, .inl h)), (xa, .inl (dA 0, 60, .inl tx)), (ta, .inl (dA 0, 3, .inl td))] := hD
  refine lv_aload_n hx hb dX4_writes_68 rfl (lv_at hl 1 rfl) ?_
  refine va_get (D := D) (ci := 4) (v := .ref sa) (C := RX4) (T := TX4) (N := 14) hx hb hts in_X4 hown hK hP 0 rfl rfl 0 (by decide) (hts _ q1329) (fun _ h9 => h9) rfl dX4_writes_69 ?_
  refine lv_iload hx hb dX4_writes_72 (lv_at hl 0 rfl) ?_
  refine lv_iconst (v := nI (3)) hx hb dX4_writes_74 (by decide) ?_
  refine lv_iadd hx hb dX4_writes_75 ?_
  refine lv_tope (y := nI ((213 + 5 * (rN f + 1)) + 3)) (nI_add _ _) ?_
  refine lv_iload hx hb dX4_writes_76 (lv_at hl 5 rfl) ?_
  refine va_iast hx hb hK hP hD hS 1 0 rfl rfl (vp_in_nI (by omega) (by omega)) dX4_writes_78 (fun H locs hP hD hS => ?_)
  rw [nI_clamp (by omega)] at hP hD
  have hP : va_P D vwCl [(m0, .inr (4, [.ref sa, .ref pa, .ref ha, .int (nI (chP v4 ps)), .int v4, .ref xa, .int v6, .int v7, .int v8, .int v9, .int v10, .int v11, .int v12, .ref ta])), (sa, .inl (dA 0, 718, .inl (upd (upd (upd (upd (upd f 0 (nI ((rN f) + 1))) ((213 + 5 * (rN f + 1)) + 0) (nI (kind))) ((213 + 5 * (rN f + 1)) + 1) (f (9 + j))) ((213 + 5 * (rN f + 1)) + 2) key) ((213 + 5 * (rN f + 1)) + 3) v))), (pa, .inl (dA 0, 2872, .inl (chG v4 f g ps))), (ha, .inl (dA 0, 718, .inl h)), (xa, .inl (dA 0, 60, .inl tx)), (ta, .inl (dA 0, 3, .inl td))] H := hP
  have hD : va_D A [(m0, .inr (4, [.ref sa, .ref pa, .ref ha, .int (nI (chP v4 ps)), .int v4, .ref xa, .int v6, .int v7, .int v8, .int v9, .int v10, .int v11, .int v12, .ref ta])), (sa, .inl (dA 0, 718, .inl (upd (upd (upd (upd (upd f 0 (nI ((rN f) + 1))) ((213 + 5 * (rN f + 1)) + 0) (nI (kind))) ((213 + 5 * (rN f + 1)) + 1) (f (9 + j))) ((213 + 5 * (rN f + 1)) + 2) key) ((213 + 5 * (rN f + 1)) + 3) v))), (pa, .inl (dA 0, 2872, .inl (chG v4 f g ps))), (ha, .inl (dA 0, 718, .inl h)), (xa, .inl (dA 0, 60, .inl tx)), (ta, .inl (dA 0, 3, .inl td))] := hD
  refine lv_aload_n hx hb dX4_writes_79 rfl (lv_at hl 1 rfl) ?_
  refine va_get (D := D) (ci := 4) (v := .ref sa) (C := RX4) (T := TX4) (N := 14) hx hb hts in_X4 hown hK hP 0 rfl rfl 0 (by decide) (hts _ q1329) (fun _ h9 => h9) rfl dX4_writes_80 ?_
  refine lv_iload hx hb dX4_writes_83 (lv_at hl 0 rfl) ?_
  refine lv_iconst (v := nI (4)) hx hb dX4_writes_85 (by decide) ?_
  refine lv_iadd hx hb dX4_writes_86 ?_
  refine lv_tope (y := nI ((213 + 5 * (rN f + 1)) + 4)) (nI_add _ _) ?_
  refine lv_aload_n hx hb dX4_writes_87 rfl (lv_at hl 1 rfl) ?_
  refine va_get (D := D) (ci := 4) (v := .ref sa) (C := RX4) (T := TX4) (N := 14) hx hb hts in_X4 hown hK hP 0 rfl rfl 0 (by decide) (hts _ q1329) (fun _ h9 => h9) rfl dX4_writes_88 ?_
  refine lv_iconst (v := nI (1)) hx hb dX4_writes_91 (by decide) ?_
  refine va_iald hx hb hK hP 1 0 rfl rfl (vp_in_nI (by omega) (by omega)) dX4_writes_92 ?_
  refine lv_tope (y := (upd (upd (upd (upd (upd f 0 (nI ((rN f) + 1))) ((213 + 5 * (rN f + 1)) + 0) (nI (kind))) ((213 + 5 * (rN f + 1)) + 1) (f (9 + j))) ((213 + 5 * (rN f + 1)) + 2) key) ((213 + 5 * (rN f + 1)) + 3) v) 1) (by rw [nI_clamp (by omega)]) ?_
  refine lv_tope (y := f 1) (by simp only [upd]; repeat (first | rw [if_neg (by omega)] | rw [if_pos (by omega)])) ?_
  refine va_iast hx hb hK hP hD hS 1 0 rfl rfl (vp_in_nI (by omega) (by omega)) dX4_writes_93 (fun H locs hP hD hS => ?_)
  rw [nI_clamp (by omega)] at hP hD
  have hP : va_P D vwCl [(m0, .inr (4, [.ref sa, .ref pa, .ref ha, .int (nI (chP v4 ps)), .int v4, .ref xa, .int v6, .int v7, .int v8, .int v9, .int v10, .int v11, .int v12, .ref ta])), (sa, .inl (dA 0, 718, .inl (upd (upd (upd (upd (upd (upd f 0 (nI ((rN f) + 1))) ((213 + 5 * (rN f + 1)) + 0) (nI (kind))) ((213 + 5 * (rN f + 1)) + 1) (f (9 + j))) ((213 + 5 * (rN f + 1)) + 2) key) ((213 + 5 * (rN f + 1)) + 3) v) ((213 + 5 * (rN f + 1)) + 4) (f 1)))), (pa, .inl (dA 0, 2872, .inl (chG v4 f g ps))), (ha, .inl (dA 0, 718, .inl h)), (xa, .inl (dA 0, 60, .inl tx)), (ta, .inl (dA 0, 3, .inl td))] H := hP
  have hD : va_D A [(m0, .inr (4, [.ref sa, .ref pa, .ref ha, .int (nI (chP v4 ps)), .int v4, .ref xa, .int v6, .int v7, .int v8, .int v9, .int v10, .int v11, .int v12, .ref ta])), (sa, .inl (dA 0, 718, .inl (upd (upd (upd (upd (upd (upd f 0 (nI ((rN f) + 1))) ((213 + 5 * (rN f + 1)) + 0) (nI (kind))) ((213 + 5 * (rN f + 1)) + 1) (f (9 + j))) ((213 + 5 * (rN f + 1)) + 2) key) ((213 + 5 * (rN f + 1)) + 3) v) ((213 + 5 * (rN f + 1)) + 4) (f 1)))), (pa, .inl (dA 0, 2872, .inl (chG v4 f g ps))), (ha, .inl (dA 0, 718, .inl h)), (xa, .inl (dA 0, 60, .inl tx)), (ta, .inl (dA 0, 3, .inl td))] := hD
  refine lv_aload_n hx hb dX4_writes_94 rfl (lv_at hl 1 rfl) ?_
  refine va_get (D := D) (ci := 4) (v := .ref sa) (C := RX4) (T := TX4) (N := 14) hx hb hts in_X4 hown hK hP 0 rfl rfl 0 (by decide) (hts _ q1329) (fun _ h9 => h9) rfl dX4_writes_95 ?_
  refine lv_bipush (v := nI (9)) hx hb dX4_writes_98 (by decide) ?_
  refine lv_iload_n hx hb dX4_writes_100 rfl (lv_at hl 3 rfl) ?_
  refine lv_iadd hx hb dX4_writes_101 ?_
  refine lv_tope (y := nI (9 + j)) (nI_add _ _) ?_
  refine lv_iload_n hx hb dX4_writes_102 rfl (lv_at hl 2 rfl) ?_
  refine lv_if_ne (tgt := 118) hx hb dX4_writes_103 (by decide) (fun c_2 => ?_) (fun c_2 => ?_)
  · have c_2 := mt (nI_eq (by omega) (by omega)).2 (show ¬ nI _ = nI 0 from c_2)
    refine lv_iconst (v := nI (0)) hx hb dX4_writes_118 (by decide) ?_
    refine lv_tope (y := if kind = 0 then f (9 + j) else 0) ((if_neg (by omega)).symm) ?_
    refine va_iast hx hb hK hP hD hS 1 0 rfl rfl (vp_in_nI (by omega) (by omega)) dX4_writes_119 (fun H locs hP hD hS => ?_)
    rw [nI_clamp (by omega)] at hP hD
    have hP : va_P D vwCl [(m0, .inr (4, [.ref sa, .ref pa, .ref ha, .int (nI (chP v4 ps)), .int v4, .ref xa, .int v6, .int v7, .int v8, .int v9, .int v10, .int v11, .int v12, .ref ta])), (sa, .inl (dA 0, 718, .inl (upd (upd (upd (upd (upd (upd (upd f 0 (nI ((rN f) + 1))) ((213 + 5 * (rN f + 1)) + 0) (nI (kind))) ((213 + 5 * (rN f + 1)) + 1) (f (9 + j))) ((213 + 5 * (rN f + 1)) + 2) key) ((213 + 5 * (rN f + 1)) + 3) v) ((213 + 5 * (rN f + 1)) + 4) (f 1)) (9 + j) (if kind = 0 then f (9 + j) else 0)))), (pa, .inl (dA 0, 2872, .inl (chG v4 f g ps))), (ha, .inl (dA 0, 718, .inl h)), (xa, .inl (dA 0, 60, .inl tx)), (ta, .inl (dA 0, 3, .inl td))] H := hP
    have hD : va_D A [(m0, .inr (4, [.ref sa, .ref pa, .ref ha, .int (nI (chP v4 ps)), .int v4, .ref xa, .int v6, .int v7, .int v8, .int v9, .int v10, .int v11, .int v12, .ref ta])), (sa, .inl (dA 0, 718, .inl (upd (upd (upd (upd (upd (upd (upd f 0 (nI ((rN f) + 1))) ((213 + 5 * (rN f + 1)) + 0) (nI (kind))) ((213 + 5 * (rN f + 1)) + 1) (f (9 + j))) ((213 + 5 * (rN f + 1)) + 2) key) ((213 + 5 * (rN f + 1)) + 3) v) ((213 + 5 * (rN f + 1)) + 4) (f 1)) (9 + j) (if kind = 0 then f (9 + j) else 0)))), (pa, .inl (dA 0, 2872, .inl (chG v4 f g ps))), (ha, .inl (dA 0, 718, .inl h)), (xa, .inl (dA 0, 60, .inl tx)), (ta, .inl (dA 0, 3, .inl td))] := hD
    refine lv_aload_n hx hb dX4_writes_120 rfl (lv_at hl 1 rfl) ?_
    refine va_get (D := D) (ci := 4) (v := .ref sa) (C := RX4) (T := TX4) (N := 14) hx hb hts in_X4 hown hK hP 0 rfl rfl 0 (by decide) (hts _ q1329) (fun _ h9 => h9) rfl dX4_writes_121 ?_
    refine lv_iconst (v := nI (0)) hx hb dX4_writes_124 (by decide) ?_
    refine va_iald hx hb hK hP 1 0 rfl rfl (vp_in_nI (by omega) (by omega)) dX4_writes_125 ?_
    refine lv_tope (y := (upd (upd (upd (upd (upd (upd (upd f 0 (nI ((rN f) + 1))) ((213 + 5 * (rN f + 1)) + 0) (nI (kind))) ((213 + 5 * (rN f + 1)) + 1) (f (9 + j))) ((213 + 5 * (rN f + 1)) + 2) key) ((213 + 5 * (rN f + 1)) + 3) v) ((213 + 5 * (rN f + 1)) + 4) (f 1)) (9 + j) (if kind = 0 then f (9 + j) else 0)) 0) (by rw [nI_clamp (by omega)]) ?_
    refine lv_tope (y := nI (rN f + 1)) (by simp only [upd]; repeat (first | rw [if_neg (by omega)] | rw [if_pos (by omega)])) ?_
    exact z_iret (v := nI (rN f + 1)) hx hb hr hS (⟨rfl, hP⟩) (by omega) (by omega) dX4_writes_126
  · have c_2 := (nI_eq (by omega) (by omega)).1 (show nI _ = nI 0 from c_2)
    refine lv_aload_n hx hb dX4_writes_106 rfl (lv_at hl 1 rfl) ?_
    refine va_get (D := D) (ci := 4) (v := .ref sa) (C := RX4) (T := TX4) (N := 14) hx hb hts in_X4 hown hK hP 0 rfl rfl 0 (by decide) (hts _ q1329) (fun _ h9 => h9) rfl dX4_writes_107 ?_
    refine lv_bipush (v := nI (9)) hx hb dX4_writes_110 (by decide) ?_
    refine lv_iload_n hx hb dX4_writes_112 rfl (lv_at hl 3 rfl) ?_
    refine lv_iadd hx hb dX4_writes_113 ?_
    refine lv_tope (y := nI (9 + j)) (nI_add _ _) ?_
    refine va_iald hx hb hK hP 1 0 rfl rfl (vp_in_nI (by omega) (by omega)) dX4_writes_114 ?_
    refine lv_tope (y := (upd (upd (upd (upd (upd (upd f 0 (nI ((rN f) + 1))) ((213 + 5 * (rN f + 1)) + 0) (nI (kind))) ((213 + 5 * (rN f + 1)) + 1) (f (9 + j))) ((213 + 5 * (rN f + 1)) + 2) key) ((213 + 5 * (rN f + 1)) + 3) v) ((213 + 5 * (rN f + 1)) + 4) (f 1)) (9 + j)) (by rw [nI_clamp (by omega)]) ?_
    refine lv_tope (y := f (9 + j)) (by simp only [upd]; repeat (first | rw [if_neg (by omega)] | rw [if_pos (by omega)])) ?_
    refine lv_goto (tgt := 119) hx hb dX4_writes_115 (by decide) ?_
    refine lv_tope (y := if kind = 0 then f (9 + j) else 0) ((if_pos (by omega)).symm) ?_
    refine va_iast hx hb hK hP hD hS 1 0 rfl rfl (vp_in_nI (by omega) (by omega)) dX4_writes_119 (fun H locs hP hD hS => ?_)
    rw [nI_clamp (by omega)] at hP hD
    have hP : va_P D vwCl [(m0, .inr (4, [.ref sa, .ref pa, .ref ha, .int (nI (chP v4 ps)), .int v4, .ref xa, .int v6, .int v7, .int v8, .int v9, .int v10, .int v11, .int v12, .ref ta])), (sa, .inl (dA 0, 718, .inl (upd (upd (upd (upd (upd (upd (upd f 0 (nI ((rN f) + 1))) ((213 + 5 * (rN f + 1)) + 0) (nI (kind))) ((213 + 5 * (rN f + 1)) + 1) (f (9 + j))) ((213 + 5 * (rN f + 1)) + 2) key) ((213 + 5 * (rN f + 1)) + 3) v) ((213 + 5 * (rN f + 1)) + 4) (f 1)) (9 + j) (if kind = 0 then f (9 + j) else 0)))), (pa, .inl (dA 0, 2872, .inl (chG v4 f g ps))), (ha, .inl (dA 0, 718, .inl h)), (xa, .inl (dA 0, 60, .inl tx)), (ta, .inl (dA 0, 3, .inl td))] H := hP
    have hD : va_D A [(m0, .inr (4, [.ref sa, .ref pa, .ref ha, .int (nI (chP v4 ps)), .int v4, .ref xa, .int v6, .int v7, .int v8, .int v9, .int v10, .int v11, .int v12, .ref ta])), (sa, .inl (dA 0, 718, .inl (upd (upd (upd (upd (upd (upd (upd f 0 (nI ((rN f) + 1))) ((213 + 5 * (rN f + 1)) + 0) (nI (kind))) ((213 + 5 * (rN f + 1)) + 1) (f (9 + j))) ((213 + 5 * (rN f + 1)) + 2) key) ((213 + 5 * (rN f + 1)) + 3) v) ((213 + 5 * (rN f + 1)) + 4) (f 1)) (9 + j) (if kind = 0 then f (9 + j) else 0)))), (pa, .inl (dA 0, 2872, .inl (chG v4 f g ps))), (ha, .inl (dA 0, 718, .inl h)), (xa, .inl (dA 0, 60, .inl tx)), (ta, .inl (dA 0, 3, .inl td))] := hD
    refine lv_aload_n hx hb dX4_writes_120 rfl (lv_at hl 1 rfl) ?_
    refine va_get (D := D) (ci := 4) (v := .ref sa) (C := RX4) (T := TX4) (N := 14) hx hb hts in_X4 hown hK hP 0 rfl rfl 0 (by decide) (hts _ q1329) (fun _ h9 => h9) rfl dX4_writes_121 ?_
    refine lv_iconst (v := nI (0)) hx hb dX4_writes_124 (by decide) ?_
    refine va_iald hx hb hK hP 1 0 rfl rfl (vp_in_nI (by omega) (by omega)) dX4_writes_125 ?_
    refine lv_tope (y := (upd (upd (upd (upd (upd (upd (upd f 0 (nI ((rN f) + 1))) ((213 + 5 * (rN f + 1)) + 0) (nI (kind))) ((213 + 5 * (rN f + 1)) + 1) (f (9 + j))) ((213 + 5 * (rN f + 1)) + 2) key) ((213 + 5 * (rN f + 1)) + 3) v) ((213 + 5 * (rN f + 1)) + 4) (f 1)) (9 + j) (if kind = 0 then f (9 + j) else 0)) 0) (by rw [nI_clamp (by omega)]) ?_
    refine lv_tope (y := nI (rN f + 1)) (by simp only [upd]; repeat (first | rw [if_neg (by omega)] | rw [if_pos (by omega)])) ?_
    exact z_iret (v := nI (rN f + 1)) hx hb hr hS (⟨rfl, hP⟩) (by omega) (by omega) dX4_writes_126

set_option maxHeartbeats 4000000 in
set_option maxRecDepth 100000 in
theorem mX4_commit (l : Launch) (D : va_G) (dA : Nat → ClassId) (ad : Nat → Nat) (A : Nat → Prop) (sz : Nat) (m0 : Nat) (sa : Nat) (pa : Nat) (ha : Nat) (xa : Nat) (ta : Nat) (v4 : Int32) (v6 : Int32) (v7 : Int32) (v8 : Int32) (v9 : Int32) (v10 : Int32) (v11 : Int32) (v12 : Int32) (f : Nat → Int32) (ps : Nat) (g : Nat → Int32) (h : Nat → Int32) (tx : Nat → Int32) (td : Nat → Int32) (sl : Int32) (hA : ∀ q, sz ≤ q → A q) (hp4 : ps ≤ 4) (hI : InvA f) (hD : va_D A [(m0, .inr (4, [.ref sa, .ref pa, .ref ha, .int (nI (ps)), .int v4, .ref xa, .int v6, .int v7, .int v8, .int v9, .int v10, .int v11, .int v12, .ref ta])), (sa, .inl (dA 0, 718, .inl f)), (pa, .inl (dA 0, 2872, .inl g)), (ha, .inl (dA 0, 718, .inl h)), (xa, .inl (dA 0, 60, .inl tx)), (ta, .inl (dA 0, 3, .inl td))]) : Met l yX4_commit (ws_ yX4_commit cX4_commit 3 (some .int)) ({ frames := 3, cells := 0, slots := 0, locals := 90 }) (va_Pc [.ref m0, .int sl] (zP D dA ad A sz (fun H => va_P D vwCl [(m0, .inr (4, [.ref sa, .ref pa, .ref ha, .int (nI (ps)), .int v4, .ref xa, .int v6, .int v7, .int v8, .int v9, .int v10, .int v11, .int v12, .ref ta])), (sa, .inl (dA 0, 718, .inl f)), (pa, .inl (dA 0, 2872, .inl g)), (ha, .inl (dA 0, 718, .inl h)), (xa, .inl (dA 0, 60, .inl tx)), (ta, .inl (dA 0, 3, .inl td))] H))) (zQi (fun rz H => rz = (oWr f 1 sl cNF cNF).2.1 ∧ va_P D vwCl [(m0, .inr (4, [.ref sa, .ref pa, .ref ha, .int (nI (gP (oWr f 1 sl cNF cNF).1 v4 ps)), .int v4, .ref xa, .int v6, .int v7, .int v8, .int v9, .int v10, .int v11, .int v12, .ref ta])), (sa, .inl (dA 0, 718, .inl ((oWr f 1 sl cNF cNF).2.2))), (pa, .inl (dA 0, 2872, .inl (gG (oWr f 1 sl cNF cNF).1 v4 f g ps))), (ha, .inl (dA 0, 718, .inl h)), (xa, .inl (dA 0, 60, .inl tx)), (ta, .inl (dA 0, 3, .inl td))] H) A) (0) (0) A := by
  refine Met.ofW (cc := cX4_commit) (maxL := 3) (ret := (some .int)) (by decide) rfl ?_
  intro p e s m args below meth c s₁ B hml hv
  obtain ⟨rfl, hsz, hC, hP⟩ := hv
  have hx := B.exec
  have hb := B.bytes
  have hr := B.returns
  have hts := atoms_spec (ws := ws_ yX4_commit cX4_commit 3 (some .int)) B.pre
  have hts : ∀ w ∈ lw_all, w.before _ s = true := fun w h => hts w (List.mem_cons_of_mem _ h)
  have hown : s.vm.findClass RX4 = some m.cls := findClass_of_methodNamed B.named
  have hlocks := B.notSynchronized
  subst hsz
  have hK := hC.K
  have hS : va_S A s.heap s.heap [] := va_S.rf
  have hP : va_P D vwCl [(m0, .inr (4, [.ref sa, .ref pa, .ref ha, .int (nI (ps)), .int v4, .ref xa, .int v6, .int v7, .int v8, .int v9, .int v10, .int v11, .int v12, .ref ta])), (sa, .inl (dA 0, 718, .inl f)), (pa, .inl (dA 0, 2872, .inl g)), (ha, .inl (dA 0, 718, .inl h)), (xa, .inl (dA 0, 60, .inl tx)), (ta, .inl (dA 0, 3, .inl td))] s.heap := hP
  have hI0 := hI
  obtain ⟨hf0, hn, hsb, hrt, hrt2⟩ := hI
  have hl := lv_entry ([.ref m0, .int sl]) (n := 3) (Nat.le_of_ble_eq_true rfl)
  rw [lg_entry_eq]
  generalize (lg_sl ([.ref m0, .int sl]) ++ List.replicate (3 - (lg_sl ([.ref m0, .int sl])).length) Slot.unset).toArray = ls at hl ⊢
  have hl : lv_has ls 3 [(0, .ref m0), (1, .int sl)] := hl
  refine lv_aload_n hx hb dX4_commit_0 rfl (lv_at hl 0 rfl) ?_
  refine lv_iload_n hx hb dX4_commit_1 rfl (lv_at hl 1 rfl) ?_
  refine z_cVi (As := [.int sl]) (rest := []) ⟨hx, hb, hml, hown, hts⟩ (mX4_bar l D dA ad s.heap.size m0 sa pa ha xa ta (nI (ps)) v4 v6 v7 v8 v9 v10 v11 v12 f sl) (cwV 1 hts (lw_V q1395 q1397 qs28 q67 q1398) rfl rfl rfl (by decide +kernel) ⟨Nat.le_of_ble_eq_true rfl, Nat.le_of_ble_eq_true rfl⟩) hC hS (fun _ h => hA _ (Nat.le_trans hS.1 h)) (hP.sub (ws' := [(m0, .inr (4, [.ref sa, .ref pa, .ref ha, .int (nI (ps)), .int v4, .ref xa, .int v6, .int v7, .int v8, .int v9, .int v10, .int v11, .int v12, .ref ta])), (sa, .inl (dA 0, 718, .inl f))]) [0, 1] rfl) (va_recv hK hP (ci := 4) (q0 := 0) rfl rfl) rfl rfl hl.1 (Nat.le_of_ble_eq_true rfl) dX4_commit_2 ⟨Nat.le_of_ble_eq_true rfl, Nat.le_of_ble_eq_true rfl⟩ (fun r_1 H locs hQ hF hS => ?_)
  have hP := va_P.ro hF hP
  obtain rfl : aBar f sl = r_1 := hQ.symm
  refine lv_istore_n (lv' := [(2, .int (aBar f sl)), (0, .ref m0), (1, .int sl)]) hx hb dX4_commit_5 rfl hl (by decide) rfl (fun ls hl => ?_)
  refine lv_iload_n hx hb dX4_commit_6 rfl (lv_at hl 0 rfl) ?_
  refine lv_if_ge (tgt := 14) hx hb dX4_commit_7 (by decide) (fun c_2 => ?_) (fun c_2 => ?_)
  · obtain ⟨q1, q2, q3⟩ := aBar_ok c_2
    obtain ⟨j, hj, rfl⟩ := zr_of (N := 2) q1 (by decide)
    have hn9 : rN f < 100 := by
      rcases Nat.lt_or_ge (rN f) 100 with q | q
      · exact q
      · exact absurd (by rw [hf0, show rN f = 100 by omega]) q3
    refine lv_aload_n hx hb dX4_commit_14 rfl (lv_at hl 1 rfl) ?_
    refine lv_iconst (v := nI (1)) hx hb dX4_commit_15 (by decide) ?_
    refine lv_iload_n hx hb dX4_commit_16 rfl (lv_at hl 2 rfl) ?_
    refine lv_ldc (v := (-1000004)) hx hb hown (hts _ q1408) dX4_commit_17 ?_
    refine lv_ldc (v := (-1000004)) hx hb hown (hts _ q1408) dX4_commit_19 ?_
    refine z_cVi (As := [.int (nI (1)), .int (nI (j)), .int (-1000004), .int (-1000004)]) (rest := []) ⟨hx, hb, hml, hown, hts⟩ (mX4_writes l D dA ad A H.size m0 sa pa ha xa ta v4 v6 v7 v8 v9 v10 v11 v12 f ps g h tx td 1 j (-1000004) (-1000004) (hA_up hA hS) (by omega) (hI0) (by omega) (by omega) (by omega) (hD.sub [0, 1, 2, 3, 4, 5] (by decide) rfl)) (cwV 4 hts (lw_V q1400 q1402 qs29 q67 q1403) rfl rfl rfl (by decide +kernel) ⟨Nat.le_of_ble_eq_true rfl, Nat.le_of_ble_eq_true rfl⟩) hC hS (fun _ h => h) (hP.sub (ws' := [(m0, .inr (4, [.ref sa, .ref pa, .ref ha, .int (nI (ps)), .int v4, .ref xa, .int v6, .int v7, .int v8, .int v9, .int v10, .int v11, .int v12, .ref ta])), (sa, .inl (dA 0, 718, .inl f)), (pa, .inl (dA 0, 2872, .inl g)), (ha, .inl (dA 0, 718, .inl h)), (xa, .inl (dA 0, 60, .inl tx)), (ta, .inl (dA 0, 3, .inl td))]) [0, 1, 2, 3, 4, 5] rfl) (va_recv hK hP (ci := 4) (q0 := 0) rfl rfl) rfl rfl hl.1 (Nat.le_of_ble_eq_true rfl) dX4_commit_21 ⟨Nat.le_of_ble_eq_true rfl, Nat.le_of_ble_eq_true rfl⟩ (fun r_3 H locs hQ hF hS => ?_)
    obtain ⟨hQ, hP⟩ := hQ
    have hD := va_D.same (ws' := [(m0, .inr (4, [.ref sa, .ref pa, .ref ha, .int (nI (chP v4 ps)), .int v4, .ref xa, .int v6, .int v7, .int v8, .int v9, .int v10, .int v11, .int v12, .ref ta])), (sa, .inl (dA 0, 718, .inl (wrF f 1 j (-1000004) (-1000004)))), (pa, .inl (dA 0, 2872, .inl (chG v4 f g ps))), (ha, .inl (dA 0, 718, .inl h)), (xa, .inl (dA 0, 60, .inl tx)), (ta, .inl (dA 0, 3, .inl td))]) (hD.sub (ws' := [(m0, .inr (4, [.ref sa, .ref pa, .ref ha, .int (nI (ps)), .int v4, .ref xa, .int v6, .int v7, .int v8, .int v9, .int v10, .int v11, .int v12, .ref ta])), (sa, .inl (dA 0, 718, .inl f)), (pa, .inl (dA 0, 2872, .inl g)), (ha, .inl (dA 0, 718, .inl h)), (xa, .inl (dA 0, 60, .inl tx)), (ta, .inl (dA 0, 3, .inl td))]) [0, 1, 2, 3, 4, 5] (by decide) rfl) rfl
    have hP : va_P D vwCl [(m0, .inr (4, [.ref sa, .ref pa, .ref ha, .int (nI (chP v4 ps)), .int v4, .ref xa, .int v6, .int v7, .int v8, .int v9, .int v10, .int v11, .int v12, .ref ta])), (sa, .inl (dA 0, 718, .inl (wrF f 1 j (-1000004) (-1000004)))), (pa, .inl (dA 0, 2872, .inl (chG v4 f g ps))), (ha, .inl (dA 0, 718, .inl h)), (xa, .inl (dA 0, 60, .inl tx)), (ta, .inl (dA 0, 3, .inl td))] H := hP
    have hD : va_D A [(m0, .inr (4, [.ref sa, .ref pa, .ref ha, .int (nI (chP v4 ps)), .int v4, .ref xa, .int v6, .int v7, .int v8, .int v9, .int v10, .int v11, .int v12, .ref ta])), (sa, .inl (dA 0, 718, .inl (wrF f 1 j (-1000004) (-1000004)))), (pa, .inl (dA 0, 2872, .inl (chG v4 f g ps))), (ha, .inl (dA 0, 718, .inl h)), (xa, .inl (dA 0, 60, .inl tx)), (ta, .inl (dA 0, 3, .inl td))] := hD
    obtain rfl : nI (rN f + 1) = r_3 := hQ.symm
    exact z_iret (v := nI (rN f + 1)) hx hb hr hS (by rw [show oWr f 1 (nI (j)) cNF cNF = (true, nI (rN f + 1), wrF f 1 j (-1000004) (-1000004)) from by unfold oWr; simp only [nI_clamp (show j < 2 ^ 31 by omega)]; (repeat' split) <;> first | rfl | contradiction | (exfalso; simp_all; done)]; exact ⟨rfl, hP⟩) (by omega) (by omega) dX4_commit_24
  · refine lv_iload_n hx hb dX4_commit_10 rfl (lv_at hl 0 rfl) ?_
    refine lv_goto (tgt := 24) hx hb dX4_commit_11 (by decide) ?_
    exact z_iret (v := aBar f sl) hx hb hr hS (by rw [show oWr f 1 sl cNF cNF = (false, aBar f sl, f) from by unfold oWr; (repeat' split) <;> first | rfl | contradiction | (exfalso; simp_all; done)]; exact ⟨rfl, hP⟩) (by omega) (by omega) dX4_commit_24

set_option maxHeartbeats 4000000 in
set_option maxRecDepth 100000 in
theorem mX4_abort (l : Launch) (D : va_G) (dA : Nat → ClassId) (ad : Nat → Nat) (A : Nat → Prop) (sz : Nat) (m0 : Nat) (sa : Nat) (pa : Nat) (ha : Nat) (xa : Nat) (ta : Nat) (v4 : Int32) (v6 : Int32) (v7 : Int32) (v8 : Int32) (v9 : Int32) (v10 : Int32) (v11 : Int32) (v12 : Int32) (f : Nat → Int32) (ps : Nat) (g : Nat → Int32) (h : Nat → Int32) (tx : Nat → Int32) (td : Nat → Int32) (sl : Int32) (hA : ∀ q, sz ≤ q → A q) (hp4 : ps ≤ 4) (hI : InvA f) (hD : va_D A [(m0, .inr (4, [.ref sa, .ref pa, .ref ha, .int (nI (ps)), .int v4, .ref xa, .int v6, .int v7, .int v8, .int v9, .int v10, .int v11, .int v12, .ref ta])), (sa, .inl (dA 0, 718, .inl f)), (pa, .inl (dA 0, 2872, .inl g)), (ha, .inl (dA 0, 718, .inl h)), (xa, .inl (dA 0, 60, .inl tx)), (ta, .inl (dA 0, 3, .inl td))]) : Met l yX4_abort (ws_ yX4_abort cX4_abort 3 (some .int)) ({ frames := 3, cells := 0, slots := 0, locals := 90 }) (va_Pc [.ref m0, .int sl] (zP D dA ad A sz (fun H => va_P D vwCl [(m0, .inr (4, [.ref sa, .ref pa, .ref ha, .int (nI (ps)), .int v4, .ref xa, .int v6, .int v7, .int v8, .int v9, .int v10, .int v11, .int v12, .ref ta])), (sa, .inl (dA 0, 718, .inl f)), (pa, .inl (dA 0, 2872, .inl g)), (ha, .inl (dA 0, 718, .inl h)), (xa, .inl (dA 0, 60, .inl tx)), (ta, .inl (dA 0, 3, .inl td))] H))) (zQi (fun rz H => rz = (oWr f 2 sl cNF cNF).2.1 ∧ va_P D vwCl [(m0, .inr (4, [.ref sa, .ref pa, .ref ha, .int (nI (gP (oWr f 2 sl cNF cNF).1 v4 ps)), .int v4, .ref xa, .int v6, .int v7, .int v8, .int v9, .int v10, .int v11, .int v12, .ref ta])), (sa, .inl (dA 0, 718, .inl ((oWr f 2 sl cNF cNF).2.2))), (pa, .inl (dA 0, 2872, .inl (gG (oWr f 2 sl cNF cNF).1 v4 f g ps))), (ha, .inl (dA 0, 718, .inl h)), (xa, .inl (dA 0, 60, .inl tx)), (ta, .inl (dA 0, 3, .inl td))] H) A) (0) (0) A := by
  refine Met.ofW (cc := cX4_abort) (maxL := 3) (ret := (some .int)) (by decide) rfl ?_
  intro p e s m args below meth c s₁ B hml hv
  obtain ⟨rfl, hsz, hC, hP⟩ := hv
  have hx := B.exec
  have hb := B.bytes
  have hr := B.returns
  have hts := atoms_spec (ws := ws_ yX4_abort cX4_abort 3 (some .int)) B.pre
  have hts : ∀ w ∈ lw_all, w.before _ s = true := fun w h => hts w (List.mem_cons_of_mem _ h)
  have hown : s.vm.findClass RX4 = some m.cls := findClass_of_methodNamed B.named
  have hlocks := B.notSynchronized
  subst hsz
  have hK := hC.K
  have hS : va_S A s.heap s.heap [] := va_S.rf
  have hP : va_P D vwCl [(m0, .inr (4, [.ref sa, .ref pa, .ref ha, .int (nI (ps)), .int v4, .ref xa, .int v6, .int v7, .int v8, .int v9, .int v10, .int v11, .int v12, .ref ta])), (sa, .inl (dA 0, 718, .inl f)), (pa, .inl (dA 0, 2872, .inl g)), (ha, .inl (dA 0, 718, .inl h)), (xa, .inl (dA 0, 60, .inl tx)), (ta, .inl (dA 0, 3, .inl td))] s.heap := hP
  have hI0 := hI
  obtain ⟨hf0, hn, hsb, hrt, hrt2⟩ := hI
  have hl := lv_entry ([.ref m0, .int sl]) (n := 3) (Nat.le_of_ble_eq_true rfl)
  rw [lg_entry_eq]
  generalize (lg_sl ([.ref m0, .int sl]) ++ List.replicate (3 - (lg_sl ([.ref m0, .int sl])).length) Slot.unset).toArray = ls at hl ⊢
  have hl : lv_has ls 3 [(0, .ref m0), (1, .int sl)] := hl
  refine lv_aload_n hx hb dX4_abort_0 rfl (lv_at hl 0 rfl) ?_
  refine lv_iload_n hx hb dX4_abort_1 rfl (lv_at hl 1 rfl) ?_
  refine z_cVi (As := [.int sl]) (rest := []) ⟨hx, hb, hml, hown, hts⟩ (mX4_bar l D dA ad s.heap.size m0 sa pa ha xa ta (nI (ps)) v4 v6 v7 v8 v9 v10 v11 v12 f sl) (cwV 1 hts (lw_V q1395 q1397 qs28 q67 q1398) rfl rfl rfl (by decide +kernel) ⟨Nat.le_of_ble_eq_true rfl, Nat.le_of_ble_eq_true rfl⟩) hC hS (fun _ h => hA _ (Nat.le_trans hS.1 h)) (hP.sub (ws' := [(m0, .inr (4, [.ref sa, .ref pa, .ref ha, .int (nI (ps)), .int v4, .ref xa, .int v6, .int v7, .int v8, .int v9, .int v10, .int v11, .int v12, .ref ta])), (sa, .inl (dA 0, 718, .inl f))]) [0, 1] rfl) (va_recv hK hP (ci := 4) (q0 := 0) rfl rfl) rfl rfl hl.1 (Nat.le_of_ble_eq_true rfl) dX4_abort_2 ⟨Nat.le_of_ble_eq_true rfl, Nat.le_of_ble_eq_true rfl⟩ (fun r_1 H locs hQ hF hS => ?_)
  have hP := va_P.ro hF hP
  obtain rfl : aBar f sl = r_1 := hQ.symm
  refine lv_istore_n (lv' := [(2, .int (aBar f sl)), (0, .ref m0), (1, .int sl)]) hx hb dX4_abort_5 rfl hl (by decide) rfl (fun ls hl => ?_)
  refine lv_iload_n hx hb dX4_abort_6 rfl (lv_at hl 0 rfl) ?_
  refine lv_if_ge (tgt := 14) hx hb dX4_abort_7 (by decide) (fun c_2 => ?_) (fun c_2 => ?_)
  · obtain ⟨q1, q2, q3⟩ := aBar_ok c_2
    obtain ⟨j, hj, rfl⟩ := zr_of (N := 2) q1 (by decide)
    have hn9 : rN f < 100 := by
      rcases Nat.lt_or_ge (rN f) 100 with q | q
      · exact q
      · exact absurd (by rw [hf0, show rN f = 100 by omega]) q3
    refine lv_aload_n hx hb dX4_abort_14 rfl (lv_at hl 1 rfl) ?_
    refine lv_iconst (v := nI (2)) hx hb dX4_abort_15 (by decide) ?_
    refine lv_iload_n hx hb dX4_abort_16 rfl (lv_at hl 2 rfl) ?_
    refine lv_ldc (v := (-1000004)) hx hb hown (hts _ q1408) dX4_abort_17 ?_
    refine lv_ldc (v := (-1000004)) hx hb hown (hts _ q1408) dX4_abort_19 ?_
    refine z_cVi (As := [.int (nI (2)), .int (nI (j)), .int (-1000004), .int (-1000004)]) (rest := []) ⟨hx, hb, hml, hown, hts⟩ (mX4_writes l D dA ad A H.size m0 sa pa ha xa ta v4 v6 v7 v8 v9 v10 v11 v12 f ps g h tx td 2 j (-1000004) (-1000004) (hA_up hA hS) (by omega) (hI0) (by omega) (by omega) (by omega) (hD.sub [0, 1, 2, 3, 4, 5] (by decide) rfl)) (cwV 4 hts (lw_V q1400 q1402 qs29 q67 q1403) rfl rfl rfl (by decide +kernel) ⟨Nat.le_of_ble_eq_true rfl, Nat.le_of_ble_eq_true rfl⟩) hC hS (fun _ h => h) (hP.sub (ws' := [(m0, .inr (4, [.ref sa, .ref pa, .ref ha, .int (nI (ps)), .int v4, .ref xa, .int v6, .int v7, .int v8, .int v9, .int v10, .int v11, .int v12, .ref ta])), (sa, .inl (dA 0, 718, .inl f)), (pa, .inl (dA 0, 2872, .inl g)), (ha, .inl (dA 0, 718, .inl h)), (xa, .inl (dA 0, 60, .inl tx)), (ta, .inl (dA 0, 3, .inl td))]) [0, 1, 2, 3, 4, 5] rfl) (va_recv hK hP (ci := 4) (q0 := 0) rfl rfl) rfl rfl hl.1 (Nat.le_of_ble_eq_true rfl) dX4_abort_21 ⟨Nat.le_of_ble_eq_true rfl, Nat.le_of_ble_eq_true rfl⟩ (fun r_3 H locs hQ hF hS => ?_)
    obtain ⟨hQ, hP⟩ := hQ
    have hD := va_D.same (ws' := [(m0, .inr (4, [.ref sa, .ref pa, .ref ha, .int (nI (chP v4 ps)), .int v4, .ref xa, .int v6, .int v7, .int v8, .int v9, .int v10, .int v11, .int v12, .ref ta])), (sa, .inl (dA 0, 718, .inl (wrF f 2 j (-1000004) (-1000004)))), (pa, .inl (dA 0, 2872, .inl (chG v4 f g ps))), (ha, .inl (dA 0, 718, .inl h)), (xa, .inl (dA 0, 60, .inl tx)), (ta, .inl (dA 0, 3, .inl td))]) (hD.sub (ws' := [(m0, .inr (4, [.ref sa, .ref pa, .ref ha, .int (nI (ps)), .int v4, .ref xa, .int v6, .int v7, .int v8, .int v9, .int v10, .int v11, .int v12, .ref ta])), (sa, .inl (dA 0, 718, .inl f)), (pa, .inl (dA 0, 2872, .inl g)), (ha, .inl (dA 0, 718, .inl h)), (xa, .inl (dA 0, 60, .inl tx)), (ta, .inl (dA 0, 3, .inl td))]) [0, 1, 2, 3, 4, 5] (by decide) rfl) rfl
    have hP : va_P D vwCl [(m0, .inr (4, [.ref sa, .ref pa, .ref ha, .int (nI (chP v4 ps)), .int v4, .ref xa, .int v6, .int v7, .int v8, .int v9, .int v10, .int v11, .int v12, .ref ta])), (sa, .inl (dA 0, 718, .inl (wrF f 2 j (-1000004) (-1000004)))), (pa, .inl (dA 0, 2872, .inl (chG v4 f g ps))), (ha, .inl (dA 0, 718, .inl h)), (xa, .inl (dA 0, 60, .inl tx)), (ta, .inl (dA 0, 3, .inl td))] H := hP
    have hD : va_D A [(m0, .inr (4, [.ref sa, .ref pa, .ref ha, .int (nI (chP v4 ps)), .int v4, .ref xa, .int v6, .int v7, .int v8, .int v9, .int v10, .int v11, .int v12, .ref ta])), (sa, .inl (dA 0, 718, .inl (wrF f 2 j (-1000004) (-1000004)))), (pa, .inl (dA 0, 2872, .inl (chG v4 f g ps))), (ha, .inl (dA 0, 718, .inl h)), (xa, .inl (dA 0, 60, .inl tx)), (ta, .inl (dA 0, 3, .inl td))] := hD
    obtain rfl : nI (rN f + 1) = r_3 := hQ.symm
    exact z_iret (v := nI (rN f + 1)) hx hb hr hS (by rw [show oWr f 2 (nI (j)) cNF cNF = (true, nI (rN f + 1), wrF f 2 j (-1000004) (-1000004)) from by unfold oWr; simp only [nI_clamp (show j < 2 ^ 31 by omega)]; (repeat' split) <;> first | rfl | contradiction | (exfalso; simp_all; done)]; exact ⟨rfl, hP⟩) (by omega) (by omega) dX4_abort_24
  · refine lv_iload_n hx hb dX4_abort_10 rfl (lv_at hl 0 rfl) ?_
    refine lv_goto (tgt := 24) hx hb dX4_abort_11 (by decide) ?_
    exact z_iret (v := aBar f sl) hx hb hr hS (by rw [show oWr f 2 sl cNF cNF = (false, aBar f sl, f) from by unfold oWr; (repeat' split) <;> first | rfl | contradiction | (exfalso; simp_all; done)]; exact ⟨rfl, hP⟩) (by omega) (by omega) dX4_abort_24

set_option maxHeartbeats 4000000 in
set_option maxRecDepth 100000 in
theorem mX4_put (l : Launch) (D : va_G) (dA : Nat → ClassId) (ad : Nat → Nat) (A : Nat → Prop) (sz : Nat) (m0 : Nat) (sa : Nat) (pa : Nat) (ha : Nat) (xa : Nat) (ta : Nat) (v4 : Int32) (v6 : Int32) (v7 : Int32) (v8 : Int32) (v9 : Int32) (v10 : Int32) (v11 : Int32) (v12 : Int32) (f : Nat → Int32) (ps : Nat) (g : Nat → Int32) (h : Nat → Int32) (tx : Nat → Int32) (td : Nat → Int32) (sl : Int32) (key : Int32) (v : Int32) (hA : ∀ q, sz ≤ q → A q) (hp4 : ps ≤ 4) (hI : InvA f) (hD : va_D A [(m0, .inr (4, [.ref sa, .ref pa, .ref ha, .int (nI (ps)), .int v4, .ref xa, .int v6, .int v7, .int v8, .int v9, .int v10, .int v11, .int v12, .ref ta])), (sa, .inl (dA 0, 718, .inl f)), (pa, .inl (dA 0, 2872, .inl g)), (ha, .inl (dA 0, 718, .inl h)), (xa, .inl (dA 0, 60, .inl tx)), (ta, .inl (dA 0, 3, .inl td))]) : Met l yX4_put (ws_ yX4_put cX4_put 5 (some .int)) ({ frames := 3, cells := 0, slots := 0, locals := 90 }) (va_Pc [.ref m0, .int sl, .int key, .int v] (zP D dA ad A sz (fun H => va_P D vwCl [(m0, .inr (4, [.ref sa, .ref pa, .ref ha, .int (nI (ps)), .int v4, .ref xa, .int v6, .int v7, .int v8, .int v9, .int v10, .int v11, .int v12, .ref ta])), (sa, .inl (dA 0, 718, .inl f)), (pa, .inl (dA 0, 2872, .inl g)), (ha, .inl (dA 0, 718, .inl h)), (xa, .inl (dA 0, 60, .inl tx)), (ta, .inl (dA 0, 3, .inl td))] H))) (zQi (fun rz H => rz = (oPut f sl key v).2.1 ∧ va_P D vwCl [(m0, .inr (4, [.ref sa, .ref pa, .ref ha, .int (nI (gP (oPut f sl key v).1 v4 ps)), .int v4, .ref xa, .int v6, .int v7, .int v8, .int v9, .int v10, .int v11, .int v12, .ref ta])), (sa, .inl (dA 0, 718, .inl ((oPut f sl key v).2.2))), (pa, .inl (dA 0, 2872, .inl (gG (oPut f sl key v).1 v4 f g ps))), (ha, .inl (dA 0, 718, .inl h)), (xa, .inl (dA 0, 60, .inl tx)), (ta, .inl (dA 0, 3, .inl td))] H) A) (0) (0) A := by
  refine Met.ofW (cc := cX4_put) (maxL := 5) (ret := (some .int)) (by decide) rfl ?_
  intro p e s m args below meth c s₁ B hml hv
  obtain ⟨rfl, hsz, hC, hP⟩ := hv
  have hx := B.exec
  have hb := B.bytes
  have hr := B.returns
  have hts := atoms_spec (ws := ws_ yX4_put cX4_put 5 (some .int)) B.pre
  have hts : ∀ w ∈ lw_all, w.before _ s = true := fun w h => hts w (List.mem_cons_of_mem _ h)
  have hown : s.vm.findClass RX4 = some m.cls := findClass_of_methodNamed B.named
  have hlocks := B.notSynchronized
  subst hsz
  have hK := hC.K
  have hS : va_S A s.heap s.heap [] := va_S.rf
  have hP : va_P D vwCl [(m0, .inr (4, [.ref sa, .ref pa, .ref ha, .int (nI (ps)), .int v4, .ref xa, .int v6, .int v7, .int v8, .int v9, .int v10, .int v11, .int v12, .ref ta])), (sa, .inl (dA 0, 718, .inl f)), (pa, .inl (dA 0, 2872, .inl g)), (ha, .inl (dA 0, 718, .inl h)), (xa, .inl (dA 0, 60, .inl tx)), (ta, .inl (dA 0, 3, .inl td))] s.heap := hP
  have hI0 := hI
  obtain ⟨hf0, hn, hsb, hrt, hrt2⟩ := hI
  have hl := lv_entry ([.ref m0, .int sl, .int key, .int v]) (n := 5) (Nat.le_of_ble_eq_true rfl)
  rw [lg_entry_eq]
  generalize (lg_sl ([.ref m0, .int sl, .int key, .int v]) ++ List.replicate (5 - (lg_sl ([.ref m0, .int sl, .int key, .int v])).length) Slot.unset).toArray = ls at hl ⊢
  have hl : lv_has ls 5 [(0, .ref m0), (1, .int sl), (2, .int key), (3, .int v)] := hl
  refine lv_iload_n hx hb dX4_put_0 rfl (lv_at hl 2 rfl) ?_
  refine z_cSi (As := [.int key]) (rest := []) ⟨hx, hb, hml, hown, hts⟩ (mX4_isKey l D dA ad s.heap.size key) (va_cwS 1 hts (lw_S q1392 q1393 q67 q1394) rfl rfl rfl (by decide +kernel) ⟨Nat.le_of_ble_eq_true rfl, Nat.le_of_ble_eq_true rfl⟩) hC hS (fun _ h => hA _ (Nat.le_trans hS.1 h)) trivial rfl rfl hl.1 (Nat.le_of_ble_eq_true rfl) dX4_put_1 ⟨Nat.le_of_ble_eq_true rfl, Nat.le_of_ble_eq_true rfl⟩ (fun r_1 H locs hQ hF hS => ?_)
  have hP := va_P.ro hF hP
  obtain rfl : bI (nI (0) ≤ key ∧ key ≤ nI (23)) = r_1 := hQ.symm
  refine lv_if_eq (tgt := 18) hx hb dX4_put_4 (by decide) (fun c_2 => ?_) (fun c_2 => ?_)
  · have c_2 := bI_0.1 c_2
    refine lv_ldc (v := (-1000001)) hx hb hown (hts _ q1382) dX4_put_18 ?_
    exact z_iret (v := (-1000001)) hx hb hr hS (by rw [show oPut f sl key v = (false, (-1000001), f) from by unfold oPut oWr;  (repeat' split) <;> first | rfl | contradiction | (simp only [nI_clamp (show j < 2 ^ 31 by omega)]; done) | (exfalso; simp_all; done)]; exact ⟨rfl, hP⟩) (by omega) (by omega) dX4_put_20
  · have c_2 := bI_1.1 c_2
    refine lv_iload_n hx hb dX4_put_7 rfl (lv_at hl 3 rfl) ?_
    refine lv_iconst (v := nI (0)) hx hb dX4_put_8 (by decide) ?_
    refine lv_sipush (v := nI (999)) hx hb dX4_put_9 (by decide) ?_
    refine z_cSi (As := [.int v, .int (nI (0)), .int (nI (999))]) (rest := []) ⟨hx, hb, hml, hown, hts⟩ (mX4_in l D dA ad H.size v (nI (0)) (nI (999))) (va_cwS 3 hts (lw_S q1379 q1380 q67 q1381) rfl rfl rfl (by decide +kernel) ⟨Nat.le_of_ble_eq_true rfl, Nat.le_of_ble_eq_true rfl⟩) hC hS (fun _ h => hA _ (Nat.le_trans hS.1 h)) trivial rfl rfl hl.1 (Nat.le_of_ble_eq_true rfl) dX4_put_12 ⟨Nat.le_of_ble_eq_true rfl, Nat.le_of_ble_eq_true rfl⟩ (fun r_3 H locs hQ hF hS => ?_)
    have hP := va_P.ro hF hP
    obtain rfl : bI ((nI (0)) ≤ v ∧ v ≤ (nI (999))) = r_3 := hQ.symm
    refine lv_if_ne (tgt := 21) hx hb dX4_put_15 (by decide) (fun c_4 => ?_) (fun c_4 => ?_)
    · have c_4 := bI_1.1 c_4
      refine lv_aload_n hx hb dX4_put_21 rfl (lv_at hl 0 rfl) ?_
      refine lv_iload_n hx hb dX4_put_22 rfl (lv_at hl 1 rfl) ?_
      refine z_cVi (As := [.int sl]) (rest := []) ⟨hx, hb, hml, hown, hts⟩ (mX4_bar l D dA ad H.size m0 sa pa ha xa ta (nI (ps)) v4 v6 v7 v8 v9 v10 v11 v12 f sl) (cwV 1 hts (lw_V q1395 q1397 qs28 q67 q1398) rfl rfl rfl (by decide +kernel) ⟨Nat.le_of_ble_eq_true rfl, Nat.le_of_ble_eq_true rfl⟩) hC hS (fun _ h => hA _ (Nat.le_trans hS.1 h)) (hP.sub (ws' := [(m0, .inr (4, [.ref sa, .ref pa, .ref ha, .int (nI (ps)), .int v4, .ref xa, .int v6, .int v7, .int v8, .int v9, .int v10, .int v11, .int v12, .ref ta])), (sa, .inl (dA 0, 718, .inl f))]) [0, 1] rfl) (va_recv hK hP (ci := 4) (q0 := 0) rfl rfl) rfl rfl hl.1 (Nat.le_of_ble_eq_true rfl) dX4_put_23 ⟨Nat.le_of_ble_eq_true rfl, Nat.le_of_ble_eq_true rfl⟩ (fun r_5 H locs hQ hF hS => ?_)
      have hP := va_P.ro hF hP
      obtain rfl : aBar f sl = r_5 := hQ.symm
      refine lv_istore (lv' := [(4, .int (aBar f sl)), (0, .ref m0), (1, .int sl), (2, .int key), (3, .int v)]) hx hb dX4_put_26 hl (by decide) rfl (fun ls hl => ?_)
      refine lv_iload hx hb dX4_put_28 (lv_at hl 0 rfl) ?_
      refine lv_if_ge (tgt := 38) hx hb dX4_put_30 (by decide) (fun c_6 => ?_) (fun c_6 => ?_)
      · obtain ⟨q1, q2, q3⟩ := aBar_ok c_6
        obtain ⟨j, hj, rfl⟩ := zr_of (N := 2) q1 (by decide)
        have hn9 : rN f < 100 := by
          rcases Nat.lt_or_ge (rN f) 100 with q | q
          · exact q
          · exact absurd (by rw [hf0, show rN f = 100 by omega]) q3
        refine lv_aload_n hx hb dX4_put_38 rfl (lv_at hl 1 rfl) ?_
        refine lv_iconst (v := nI (0)) hx hb dX4_put_39 (by decide) ?_
        refine lv_iload_n hx hb dX4_put_40 rfl (lv_at hl 2 rfl) ?_
        refine lv_iload_n hx hb dX4_put_41 rfl (lv_at hl 3 rfl) ?_
        refine lv_iload_n hx hb dX4_put_42 rfl (lv_at hl 4 rfl) ?_
        refine z_cVi (As := [.int (nI (0)), .int (nI (j)), .int key, .int v]) (rest := []) ⟨hx, hb, hml, hown, hts⟩ (mX4_writes l D dA ad A H.size m0 sa pa ha xa ta v4 v6 v7 v8 v9 v10 v11 v12 f ps g h tx td 0 j key v (hA_up hA hS) (by omega) (hI0) (by omega) (by omega) (by omega) (hD.sub [0, 1, 2, 3, 4, 5] (by decide) rfl)) (cwV 4 hts (lw_V q1400 q1402 qs29 q67 q1403) rfl rfl rfl (by decide +kernel) ⟨Nat.le_of_ble_eq_true rfl, Nat.le_of_ble_eq_true rfl⟩) hC hS (fun _ h => h) (hP.sub (ws' := [(m0, .inr (4, [.ref sa, .ref pa, .ref ha, .int (nI (ps)), .int v4, .ref xa, .int v6, .int v7, .int v8, .int v9, .int v10, .int v11, .int v12, .ref ta])), (sa, .inl (dA 0, 718, .inl f)), (pa, .inl (dA 0, 2872, .inl g)), (ha, .inl (dA 0, 718, .inl h)), (xa, .inl (dA 0, 60, .inl tx)), (ta, .inl (dA 0, 3, .inl td))]) [0, 1, 2, 3, 4, 5] rfl) (va_recv hK hP (ci := 4) (q0 := 0) rfl rfl) rfl rfl hl.1 (Nat.le_of_ble_eq_true rfl) dX4_put_43 ⟨Nat.le_of_ble_eq_true rfl, Nat.le_of_ble_eq_true rfl⟩ (fun r_7 H locs hQ hF hS => ?_)
        obtain ⟨hQ, hP⟩ := hQ
        have hD := va_D.same (ws' := [(m0, .inr (4, [.ref sa, .ref pa, .ref ha, .int (nI (chP v4 ps)), .int v4, .ref xa, .int v6, .int v7, .int v8, .int v9, .int v10, .int v11, .int v12, .ref ta])), (sa, .inl (dA 0, 718, .inl (wrF f 0 j key v))), (pa, .inl (dA 0, 2872, .inl (chG v4 f g ps))), (ha, .inl (dA 0, 718, .inl h)), (xa, .inl (dA 0, 60, .inl tx)), (ta, .inl (dA 0, 3, .inl td))]) (hD.sub (ws' := [(m0, .inr (4, [.ref sa, .ref pa, .ref ha, .int (nI (ps)), .int v4, .ref xa, .int v6, .int v7, .int v8, .int v9, .int v10, .int v11, .int v12, .ref ta])), (sa, .inl (dA 0, 718, .inl f)), (pa, .inl (dA 0, 2872, .inl g)), (ha, .inl (dA 0, 718, .inl h)), (xa, .inl (dA 0, 60, .inl tx)), (ta, .inl (dA 0, 3, .inl td))]) [0, 1, 2, 3, 4, 5] (by decide) rfl) rfl
        have hP : va_P D vwCl [(m0, .inr (4, [.ref sa, .ref pa, .ref ha, .int (nI (chP v4 ps)), .int v4, .ref xa, .int v6, .int v7, .int v8, .int v9, .int v10, .int v11, .int v12, .ref ta])), (sa, .inl (dA 0, 718, .inl (wrF f 0 j key v))), (pa, .inl (dA 0, 2872, .inl (chG v4 f g ps))), (ha, .inl (dA 0, 718, .inl h)), (xa, .inl (dA 0, 60, .inl tx)), (ta, .inl (dA 0, 3, .inl td))] H := hP
        have hD : va_D A [(m0, .inr (4, [.ref sa, .ref pa, .ref ha, .int (nI (chP v4 ps)), .int v4, .ref xa, .int v6, .int v7, .int v8, .int v9, .int v10, .int v11, .int v12, .ref ta])), (sa, .inl (dA 0, 718, .inl (wrF f 0 j key v))), (pa, .inl (dA 0, 2872, .inl (chG v4 f g ps))), (ha, .inl (dA 0, 718, .inl h)), (xa, .inl (dA 0, 60, .inl tx)), (ta, .inl (dA 0, 3, .inl td))] := hD
        obtain rfl : nI (rN f + 1) = r_7 := hQ.symm
        exact z_iret (v := nI (rN f + 1)) hx hb hr hS (by rw [show oPut f (nI (j)) key v = (true, nI (rN f + 1), wrF f 0 j key v) from by unfold oPut oWr; simp only [nI_clamp (show j < 2 ^ 31 by omega)];  (repeat' split) <;> first | rfl | contradiction | (simp only [nI_clamp (show j < 2 ^ 31 by omega)]; done) | (exfalso; simp_all; done)]; exact ⟨rfl, hP⟩) (by omega) (by omega) dX4_put_46
      · refine lv_iload hx hb dX4_put_33 (lv_at hl 0 rfl) ?_
        refine lv_goto (tgt := 46) hx hb dX4_put_35 (by decide) ?_
        exact z_iret (v := aBar f sl) hx hb hr hS (by rw [show oPut f sl key v = (false, aBar f sl, f) from by unfold oPut oWr;  (repeat' split) <;> first | rfl | contradiction | (simp only [nI_clamp (show j < 2 ^ 31 by omega)]; done) | (exfalso; simp_all; done)]; exact ⟨rfl, hP⟩) (by omega) (by omega) dX4_put_46
    · have c_4 := bI_0.1 c_4
      refine lv_ldc (v := (-1000001)) hx hb hown (hts _ q1382) dX4_put_18 ?_
      exact z_iret (v := (-1000001)) hx hb hr hS (by rw [show oPut f sl key v = (false, (-1000001), f) from by unfold oPut oWr;  (repeat' split) <;> first | rfl | contradiction | (simp only [nI_clamp (show j < 2 ^ 31 by omega)]; done) | (exfalso; simp_all; done)]; exact ⟨rfl, hP⟩) (by omega) (by omega) dX4_put_20

set_option maxHeartbeats 4000000 in
set_option maxRecDepth 100000 in
theorem mX4_ship (l : Launch) (D : va_G) (dA : Nat → ClassId) (ad : Nat → Nat) (A : Nat → Prop) (sz : Nat) (m0 : Nat) (sa : Nat) (pa : Nat) (ha : Nat) (xa : Nat) (ta : Nat) (v4 : Int32) (v6 : Int32) (v7 : Int32) (v8 : Int32) (v9 : Int32) (v10 : Int32) (v11 : Int32) (v12 : Int32) (f : Nat → Int32) (ps : Nat) (g : Nat → Int32) (h : Nat → Int32) (tx : Nat → Int32) (td : Nat → Int32) (sb : Int32) (k0 : Int32) (hA : ∀ q, sz ≤ q → A q) (hp4 : ps ≤ 4) (hI : InvA f) (hD : va_D A [(m0, .inr (4, [.ref sa, .ref pa, .ref ha, .int (nI (ps)), .int v4, .ref xa, .int v6, .int v7, .int v8, .int v9, .int v10, .int v11, .int v12, .ref ta])), (sa, .inl (dA 0, 718, .inl f)), (pa, .inl (dA 0, 2872, .inl g)), (ha, .inl (dA 0, 718, .inl h)), (xa, .inl (dA 0, 60, .inl tx)), (ta, .inl (dA 0, 3, .inl td))]) : Met l yX4_ship (ws_ yX4_ship cX4_ship 5 (some .int)) ({ frames := 2, cells := 0, slots := 0, locals := 60 }) (va_Pc [.ref m0, .int sb, .int k0] (zP D dA ad A sz (fun H => va_P D vwCl [(m0, .inr (4, [.ref sa, .ref pa, .ref ha, .int (nI (ps)), .int v4, .ref xa, .int v6, .int v7, .int v8, .int v9, .int v10, .int v11, .int v12, .ref ta])), (sa, .inl (dA 0, 718, .inl f)), (pa, .inl (dA 0, 2872, .inl g)), (ha, .inl (dA 0, 718, .inl h)), (xa, .inl (dA 0, 60, .inl tx)), (ta, .inl (dA 0, 3, .inl td))] H))) (zQi (fun rz H => rz = (oShip f sb k0).2.1 ∧ va_P D vwCl [(m0, .inr (4, [.ref sa, .ref pa, .ref ha, .int (nI (gP (oShip f sb k0).1 v4 ps)), .int v4, .ref xa, .int v6, .int v7, .int v8, .int v9, .int v10, .int v11, .int v12, .ref ta])), (sa, .inl (dA 0, 718, .inl ((oShip f sb k0).2.2))), (pa, .inl (dA 0, 2872, .inl (gG (oShip f sb k0).1 v4 f g ps))), (ha, .inl (dA 0, 718, .inl h)), (xa, .inl (dA 0, 60, .inl tx)), (ta, .inl (dA 0, 3, .inl td))] H) A) (0) (0) A := by
  refine Met.ofW (cc := cX4_ship) (maxL := 5) (ret := (some .int)) (by decide) rfl ?_
  intro p e s m args below meth c s₁ B hml hv
  obtain ⟨rfl, hsz, hC, hP⟩ := hv
  have hx := B.exec
  have hb := B.bytes
  have hr := B.returns
  have hts := atoms_spec (ws := ws_ yX4_ship cX4_ship 5 (some .int)) B.pre
  have hts : ∀ w ∈ lw_all, w.before _ s = true := fun w h => hts w (List.mem_cons_of_mem _ h)
  have hown : s.vm.findClass RX4 = some m.cls := findClass_of_methodNamed B.named
  have hlocks := B.notSynchronized
  subst hsz
  have hK := hC.K
  have hS : va_S A s.heap s.heap [] := va_S.rf
  have hP : va_P D vwCl [(m0, .inr (4, [.ref sa, .ref pa, .ref ha, .int (nI (ps)), .int v4, .ref xa, .int v6, .int v7, .int v8, .int v9, .int v10, .int v11, .int v12, .ref ta])), (sa, .inl (dA 0, 718, .inl f)), (pa, .inl (dA 0, 2872, .inl g)), (ha, .inl (dA 0, 718, .inl h)), (xa, .inl (dA 0, 60, .inl tx)), (ta, .inl (dA 0, 3, .inl td))] s.heap := hP
  have hI0 := hI
  obtain ⟨hf0, hn, hsb, hrt, hrt2⟩ := hI
  have hl := lv_entry ([.ref m0, .int sb, .int k0]) (n := 5) (Nat.le_of_ble_eq_true rfl)
  rw [lg_entry_eq]
  generalize (lg_sl ([.ref m0, .int sb, .int k0]) ++ List.replicate (5 - (lg_sl ([.ref m0, .int sb, .int k0])).length) Slot.unset).toArray = ls at hl ⊢
  have hl : lv_has ls 5 [(0, .ref m0), (1, .int sb), (2, .int k0)] := hl
  refine lv_iload_n hx hb dX4_ship_0 rfl (lv_at hl 1 rfl) ?_
  refine z_cSi (As := [.int sb]) (rest := []) ⟨hx, hb, hml, hown, hts⟩ (mX4_isStandby l D dA ad s.heap.size sb) (va_cwS 1 hts (lw_S q1417 q1418 q67 q1419) rfl rfl rfl (by decide +kernel) ⟨Nat.le_of_ble_eq_true rfl, Nat.le_of_ble_eq_true rfl⟩) hC hS (fun _ h => hA _ (Nat.le_trans hS.1 h)) trivial rfl rfl hl.1 (Nat.le_of_ble_eq_true rfl) dX4_ship_1 ⟨Nat.le_of_ble_eq_true rfl, Nat.le_of_ble_eq_true rfl⟩ (fun r_1 H locs hQ hF hS => ?_)
  have hP := va_P.ro hF hP
  obtain rfl : bI (nI (0) ≤ sb ∧ sb ≤ nI (1)) = r_1 := hQ.symm
  refine lv_if_eq (tgt := 17) hx hb dX4_ship_4 (by decide) (fun c_2 => ?_) (fun c_2 => ?_)
  · have c_2 := bI_0.1 c_2
    refine lv_ldc (v := (-1000001)) hx hb hown (hts _ q1382) dX4_ship_17 ?_
    exact z_iret (v := (-1000001)) hx hb hr hS (by rw [show oShip f sb k0 = (false, (-1000001), f) from by unfold oShip; (repeat' split) <;> first | rfl | contradiction | (exfalso; simp_all; done)]; exact ⟨rfl, hP⟩) (by omega) (by omega) dX4_ship_19
  · have c_2 := bI_1.1 c_2
    obtain ⟨b, h1, rfl⟩ := zr_of (N := 1) c_2 (by decide)
    have h1 : b < 2 := (by omega)
    obtain ⟨hrc, hap, har, hrl⟩ := hsb b h1
    refine lv_iload_n hx hb dX4_ship_7 rfl (lv_at hl 2 rfl) ?_
    refine lv_iconst (v := nI (1)) hx hb dX4_ship_8 (by decide) ?_
    refine lv_bipush (v := nI (20)) hx hb dX4_ship_9 (by decide) ?_
    refine z_cSi (As := [.int k0, .int (nI (1)), .int (nI (20))]) (rest := []) ⟨hx, hb, hml, hown, hts⟩ (mX4_in l D dA ad H.size k0 (nI (1)) (nI (20))) (va_cwS 3 hts (lw_S q1379 q1380 q67 q1381) rfl rfl rfl (by decide +kernel) ⟨Nat.le_of_ble_eq_true rfl, Nat.le_of_ble_eq_true rfl⟩) hC hS (fun _ h => hA _ (Nat.le_trans hS.1 h)) trivial rfl rfl hl.1 (Nat.le_of_ble_eq_true rfl) dX4_ship_11 ⟨Nat.le_of_ble_eq_true rfl, Nat.le_of_ble_eq_true rfl⟩ (fun r_3 H locs hQ hF hS => ?_)
    have hP := va_P.ro hF hP
    obtain rfl : bI ((nI (1)) ≤ k0 ∧ k0 ≤ (nI (20))) = r_3 := hQ.symm
    refine lv_if_ne (tgt := 20) hx hb dX4_ship_14 (by decide) (fun c_4 => ?_) (fun c_4 => ?_)
    · have c_4 := bI_1.1 c_4
      obtain ⟨k, hk, rfl⟩ := zr_of (N := 20) ⟨Int32.le_trans (by decide) c_4.1, c_4.2⟩ (by decide)
      have hk0 := (nI_leI (by omega) (by omega)).1 c_4.1
      refine lv_aload_n hx hb dX4_ship_20 rfl (lv_at hl 0 rfl) ?_
      refine lv_iload_n hx hb dX4_ship_21 rfl (lv_at hl 1 rfl) ?_
      refine lv_iconst (v := nI (2)) hx hb dX4_ship_22 (by decide) ?_
      refine z_cVi (As := [.int (nI (b)), .int (nI (2))]) (rest := []) ⟨hx, hb, hml, hown, hts⟩ (mX4_ofStandby l D dA ad H.size m0 sa pa ha xa ta (nI (ps)) v4 v6 v7 v8 v9 v10 v11 v12 f b 2 (by omega) (by omega)) (cwV 2 hts (lw_V q1420 q1422 qs30 q67 q1423) rfl rfl rfl (by decide +kernel) ⟨Nat.le_of_ble_eq_true rfl, Nat.le_of_ble_eq_true rfl⟩) hC hS (fun _ h => hA _ (Nat.le_trans hS.1 h)) (hP.sub (ws' := [(m0, .inr (4, [.ref sa, .ref pa, .ref ha, .int (nI (ps)), .int v4, .ref xa, .int v6, .int v7, .int v8, .int v9, .int v10, .int v11, .int v12, .ref ta])), (sa, .inl (dA 0, 718, .inl f))]) [0, 1] rfl) (va_recv hK hP (ci := 4) (q0 := 0) rfl rfl) rfl rfl hl.1 (Nat.le_of_ble_eq_true rfl) dX4_ship_23 ⟨Nat.le_of_ble_eq_true rfl, Nat.le_of_ble_eq_true rfl⟩ (fun r_5 H locs hQ hF hS => ?_)
      have hP := va_P.ro hF hP
      obtain rfl : sbf f b 2 = r_5 := hQ.symm
      refine lv_iconst (v := nI (1)) hx hb dX4_ship_26 (by decide) ?_
      refine lv_icmp_ne (tgt := 33) hx hb dX4_ship_27 (by decide) (fun c_6 => ?_) (fun c_6 => ?_)
      · refine lv_aload_n hx hb dX4_ship_33 rfl (lv_at hl 0 rfl) ?_
        refine z_cVv (As := []) (rest := []) ⟨hx, hb, hml, hown, hts⟩ (mX4_changes l D dA ad A H.size m0 sa pa ha xa ta v4 v6 v7 v8 v9 v10 v11 v12 f ps g h tx td (hA_up hA hS) (by omega) (hD.sub [0, 1, 2, 3, 4, 5] (by decide) rfl)) (cwV 0 hts (lw_V q1384 q1386 qs27 q67 q1387) rfl rfl rfl (by decide +kernel) ⟨Nat.le_of_ble_eq_true rfl, Nat.le_of_ble_eq_true rfl⟩) hC hS (fun _ h => h) (hP.sub (ws' := [(m0, .inr (4, [.ref sa, .ref pa, .ref ha, .int (nI (ps)), .int v4, .ref xa, .int v6, .int v7, .int v8, .int v9, .int v10, .int v11, .int v12, .ref ta])), (sa, .inl (dA 0, 718, .inl f)), (pa, .inl (dA 0, 2872, .inl g)), (ha, .inl (dA 0, 718, .inl h)), (xa, .inl (dA 0, 60, .inl tx)), (ta, .inl (dA 0, 3, .inl td))]) [0, 1, 2, 3, 4, 5] rfl) (va_recv hK hP (ci := 4) (q0 := 0) rfl rfl) rfl rfl hl.1 (Nat.le_of_ble_eq_true rfl) dX4_ship_34 ⟨Nat.le_of_ble_eq_true rfl, Nat.le_of_ble_eq_true rfl⟩ (fun H locs hQ hF hS => ?_)
        obtain ⟨hQ, hP⟩ := hQ
        have hD := va_D.same (ws' := [(m0, .inr (4, [.ref sa, .ref pa, .ref ha, .int (nI (chP v4 ps)), .int v4, .ref xa, .int v6, .int v7, .int v8, .int v9, .int v10, .int v11, .int v12, .ref ta])), (sa, .inl (dA 0, 718, .inl f)), (pa, .inl (dA 0, 2872, .inl (chG v4 f g ps))), (ha, .inl (dA 0, 718, .inl h)), (xa, .inl (dA 0, 60, .inl tx)), (ta, .inl (dA 0, 3, .inl td))]) (hD.sub (ws' := [(m0, .inr (4, [.ref sa, .ref pa, .ref ha, .int (nI (ps)), .int v4, .ref xa, .int v6, .int v7, .int v8, .int v9, .int v10, .int v11, .int v12, .ref ta])), (sa, .inl (dA 0, 718, .inl f)), (pa, .inl (dA 0, 2872, .inl g)), (ha, .inl (dA 0, 718, .inl h)), (xa, .inl (dA 0, 60, .inl tx)), (ta, .inl (dA 0, 3, .inl td))]) [0, 1, 2, 3, 4, 5] (by decide) rfl) rfl
        have hP : va_P D vwCl [(m0, .inr (4, [.ref sa, .ref pa, .ref ha, .int (nI (chP v4 ps)), .int v4, .ref xa, .int v6, .int v7, .int v8, .int v9, .int v10, .int v11, .int v12, .ref ta])), (sa, .inl (dA 0, 718, .inl f)), (pa, .inl (dA 0, 2872, .inl (chG v4 f g ps))), (ha, .inl (dA 0, 718, .inl h)), (xa, .inl (dA 0, 60, .inl tx)), (ta, .inl (dA 0, 3, .inl td))] H := hP
        have hD : va_D A [(m0, .inr (4, [.ref sa, .ref pa, .ref ha, .int (nI (chP v4 ps)), .int v4, .ref xa, .int v6, .int v7, .int v8, .int v9, .int v10, .int v11, .int v12, .ref ta])), (sa, .inl (dA 0, 718, .inl f)), (pa, .inl (dA 0, 2872, .inl (chG v4 f g ps))), (ha, .inl (dA 0, 718, .inl h)), (xa, .inl (dA 0, 60, .inl tx)), (ta, .inl (dA 0, 3, .inl td))] := hD
        refine lv_aload_n hx hb dX4_ship_37 rfl (lv_at hl 0 rfl) ?_
        refine va_get (D := D) (ci := 4) (v := .ref sa) (C := RX4) (T := TX4) (N := 14) hx hb hts in_X4 hown hK hP 0 rfl rfl 0 (by decide) (hts _ q1329) (fun _ h9 => h9) rfl dX4_ship_38 ?_
        refine lv_iconst (v := nI (0)) hx hb dX4_ship_41 (by decide) ?_
        refine va_iald hx hb hK hP 1 0 rfl rfl (vp_in_nI (by omega) (by omega)) dX4_ship_42 ?_
        refine lv_tope (y := f 0) (by rw [nI_clamp (by omega)]) ?_
        refine lv_tope (y := nI (rN f)) (hf0) ?_
        refine lv_aload_n hx hb dX4_ship_43 rfl (lv_at hl 0 rfl) ?_
        refine lv_iload_n hx hb dX4_ship_44 rfl (lv_at hl 1 rfl) ?_
        refine lv_iconst (v := nI (0)) hx hb dX4_ship_45 (by decide) ?_
        refine z_cVi (As := [.int (nI (b)), .int (nI (0))]) (rest := [.int (nI (rN f))]) ⟨hx, hb, hml, hown, hts⟩ (mX4_ofStandby l D dA ad H.size m0 sa pa ha xa ta (nI (chP v4 ps)) v4 v6 v7 v8 v9 v10 v11 v12 f b 0 (by omega) (by omega)) (cwV 2 hts (lw_V q1420 q1422 qs30 q67 q1423) rfl rfl rfl (by decide +kernel) ⟨Nat.le_of_ble_eq_true rfl, Nat.le_of_ble_eq_true rfl⟩) hC hS (fun _ h => hA _ (Nat.le_trans hS.1 h)) (hP.sub (ws' := [(m0, .inr (4, [.ref sa, .ref pa, .ref ha, .int (nI (chP v4 ps)), .int v4, .ref xa, .int v6, .int v7, .int v8, .int v9, .int v10, .int v11, .int v12, .ref ta])), (sa, .inl (dA 0, 718, .inl f))]) [0, 1] rfl) (va_recv hK hP (ci := 4) (q0 := 0) rfl rfl) rfl rfl hl.1 (Nat.le_of_ble_eq_true rfl) dX4_ship_46 ⟨Nat.le_of_ble_eq_true rfl, Nat.le_of_ble_eq_true rfl⟩ (fun r_8 H locs hQ hF hS => ?_)
        have hP := va_P.ro hF hP
        obtain rfl : sbf f b 0 = r_8 := hQ.symm
        refine lv_tope (y := nI (rcN f b)) (hrc) ?_
        refine lv_isub hx hb dX4_ship_49 ?_
        refine lv_tope (y := nI ((rN f) - (rcN f b))) (pk_sub (by omega)) ?_
        refine lv_istore_n (lv' := [(3, .int (nI ((rN f) - (rcN f b)))), (0, .ref m0), (1, .int (nI (b))), (2, .int (nI (k)))]) hx hb dX4_ship_50 rfl hl (by decide) rfl (fun ls hl => ?_)
        refine lv_iload_n hx hb dX4_ship_51 rfl (lv_at hl 0 rfl) ?_
        refine lv_iload_n hx hb dX4_ship_52 rfl (lv_at hl 3 rfl) ?_
        refine lv_icmp_ge (tgt := 60) hx hb dX4_ship_53 (by decide) (fun c_9 => ?_) (fun c_9 => ?_)
        · have c_9 := (nI_leI (by omega) (by omega)).1 c_9
          refine lv_iload_n hx hb dX4_ship_60 rfl (lv_at hl 3 rfl) ?_
          refine lv_tope (y := nI (shipN f b k)) (by unfold shipN; first | rw [if_pos (by omega)] | rw [if_neg (by omega)]) ?_
          refine lv_istore (lv' := [(4, .int (nI (shipN f b k))), (3, .int (nI ((rN f) - (rcN f b)))), (0, .ref m0), (1, .int (nI (b))), (2, .int (nI (k)))]) hx hb dX4_ship_61 hl (by decide) rfl (fun ls hl => ?_)
          refine lv_aload_n hx hb dX4_ship_63 rfl (lv_at hl 2 rfl) ?_
          refine va_get (D := D) (ci := 4) (v := .ref sa) (C := RX4) (T := TX4) (N := 14) hx hb hts in_X4 hown hK hP 0 rfl rfl 0 (by decide) (hts _ q1329) (fun _ h9 => h9) rfl dX4_ship_64 ?_
          refine lv_bipush (v := nI (12)) hx hb dX4_ship_67 (by decide) ?_
          refine lv_iconst (v := nI (3)) hx hb dX4_ship_69 (by decide) ?_
          refine lv_iload_n hx hb dX4_ship_70 rfl (lv_at hl 3 rfl) ?_
          refine lv_imul hx hb dX4_ship_71 ?_
          refine lv_tope (y := nI (3 * b)) (pk_mul _ _) ?_
          refine lv_iadd hx hb dX4_ship_72 ?_
          refine lv_tope (y := nI (12 + (3 * b))) (nI_add _ _) ?_
          refine lv_iconst (v := nI (0)) hx hb dX4_ship_73 (by decide) ?_
          refine lv_iadd hx hb dX4_ship_74 ?_
          refine lv_tope (y := nI ((12 + (3 * b)) + 0)) (nI_add _ _) ?_
          refine lv_dup2_11 hx hb dX4_ship_75 rfl rfl ?_
          refine va_iald hx hb hK hP 1 0 rfl rfl (vp_in_nI (by omega) (by omega)) dX4_ship_76 ?_
          refine lv_tope (y := f ((12 + (3 * b)) + 0)) (by rw [nI_clamp (by omega)]) ?_
          refine lv_tope (y := nI (rcN f b)) (hrc) ?_
          refine lv_iload hx hb dX4_ship_77 (lv_at hl 0 rfl) ?_
          refine lv_iadd hx hb dX4_ship_79 ?_
          refine lv_tope (y := nI ((rcN f b) + (shipN f b k))) (nI_add _ _) ?_
          refine va_iast hx hb hK hP hD hS 1 0 rfl rfl (vp_in_nI (by omega) (by omega)) dX4_ship_80 (fun H locs hP hD hS => ?_)
          rw [nI_clamp (by omega)] at hP hD
          have hP : va_P D vwCl [(m0, .inr (4, [.ref sa, .ref pa, .ref ha, .int (nI (chP v4 ps)), .int v4, .ref xa, .int v6, .int v7, .int v8, .int v9, .int v10, .int v11, .int v12, .ref ta])), (sa, .inl (dA 0, 718, .inl (upd f ((12 + (3 * b)) + 0) (nI ((rcN f b) + (shipN f b k)))))), (pa, .inl (dA 0, 2872, .inl (chG v4 f g ps))), (ha, .inl (dA 0, 718, .inl h)), (xa, .inl (dA 0, 60, .inl tx)), (ta, .inl (dA 0, 3, .inl td))] H := hP
          have hD : va_D A [(m0, .inr (4, [.ref sa, .ref pa, .ref ha, .int (nI (chP v4 ps)), .int v4, .ref xa, .int v6, .int v7, .int v8, .int v9, .int v10, .int v11, .int v12, .ref ta])), (sa, .inl (dA 0, 718, .inl (upd f ((12 + (3 * b)) + 0) (nI ((rcN f b) + (shipN f b k)))))), (pa, .inl (dA 0, 2872, .inl (chG v4 f g ps))), (ha, .inl (dA 0, 718, .inl h)), (xa, .inl (dA 0, 60, .inl tx)), (ta, .inl (dA 0, 3, .inl td))] := hD
          refine lv_iload hx hb dX4_ship_81 (lv_at hl 0 rfl) ?_
          exact z_iret (v := nI (shipN f b k)) hx hb hr hS (by rw [show oShip f (nI (b)) (nI (k)) = (true, nI (shipN f b k), upd f ((12 + (3 * b)) + 0) (nI ((rcN f b) + (shipN f b k)))) from by unfold oShip; simp only [nI_clamp (show b < 2 ^ 31 by omega), nI_clamp (show k < 2 ^ 31 by omega)]; (repeat' split) <;> first | rfl | contradiction | (exfalso; simp_all; done)]; exact ⟨rfl, hP⟩) (by omega) (by omega) dX4_ship_83
        · have c_9 := mt (nI_leI (by omega) (by omega)).2 c_9
          refine lv_iload_n hx hb dX4_ship_56 rfl (lv_at hl 0 rfl) ?_
          refine lv_goto (tgt := 61) hx hb dX4_ship_57 (by decide) ?_
          refine lv_tope (y := nI (shipN f b k)) (by unfold shipN; first | rw [if_pos (by omega)] | rw [if_neg (by omega)]) ?_
          refine lv_istore (lv' := [(4, .int (nI (shipN f b k))), (3, .int (nI ((rN f) - (rcN f b)))), (0, .ref m0), (1, .int (nI (b))), (2, .int (nI (k)))]) hx hb dX4_ship_61 hl (by decide) rfl (fun ls hl => ?_)
          refine lv_aload_n hx hb dX4_ship_63 rfl (lv_at hl 2 rfl) ?_
          refine va_get (D := D) (ci := 4) (v := .ref sa) (C := RX4) (T := TX4) (N := 14) hx hb hts in_X4 hown hK hP 0 rfl rfl 0 (by decide) (hts _ q1329) (fun _ h9 => h9) rfl dX4_ship_64 ?_
          refine lv_bipush (v := nI (12)) hx hb dX4_ship_67 (by decide) ?_
          refine lv_iconst (v := nI (3)) hx hb dX4_ship_69 (by decide) ?_
          refine lv_iload_n hx hb dX4_ship_70 rfl (lv_at hl 3 rfl) ?_
          refine lv_imul hx hb dX4_ship_71 ?_
          refine lv_tope (y := nI (3 * b)) (pk_mul _ _) ?_
          refine lv_iadd hx hb dX4_ship_72 ?_
          refine lv_tope (y := nI (12 + (3 * b))) (nI_add _ _) ?_
          refine lv_iconst (v := nI (0)) hx hb dX4_ship_73 (by decide) ?_
          refine lv_iadd hx hb dX4_ship_74 ?_
          refine lv_tope (y := nI ((12 + (3 * b)) + 0)) (nI_add _ _) ?_
          refine lv_dup2_11 hx hb dX4_ship_75 rfl rfl ?_
          refine va_iald hx hb hK hP 1 0 rfl rfl (vp_in_nI (by omega) (by omega)) dX4_ship_76 ?_
          refine lv_tope (y := f ((12 + (3 * b)) + 0)) (by rw [nI_clamp (by omega)]) ?_
          refine lv_tope (y := nI (rcN f b)) (hrc) ?_
          refine lv_iload hx hb dX4_ship_77 (lv_at hl 0 rfl) ?_
          refine lv_iadd hx hb dX4_ship_79 ?_
          refine lv_tope (y := nI ((rcN f b) + (shipN f b k))) (nI_add _ _) ?_
          refine va_iast hx hb hK hP hD hS 1 0 rfl rfl (vp_in_nI (by omega) (by omega)) dX4_ship_80 (fun H locs hP hD hS => ?_)
          rw [nI_clamp (by omega)] at hP hD
          have hP : va_P D vwCl [(m0, .inr (4, [.ref sa, .ref pa, .ref ha, .int (nI (chP v4 ps)), .int v4, .ref xa, .int v6, .int v7, .int v8, .int v9, .int v10, .int v11, .int v12, .ref ta])), (sa, .inl (dA 0, 718, .inl (upd f ((12 + (3 * b)) + 0) (nI ((rcN f b) + (shipN f b k)))))), (pa, .inl (dA 0, 2872, .inl (chG v4 f g ps))), (ha, .inl (dA 0, 718, .inl h)), (xa, .inl (dA 0, 60, .inl tx)), (ta, .inl (dA 0, 3, .inl td))] H := hP
          have hD : va_D A [(m0, .inr (4, [.ref sa, .ref pa, .ref ha, .int (nI (chP v4 ps)), .int v4, .ref xa, .int v6, .int v7, .int v8, .int v9, .int v10, .int v11, .int v12, .ref ta])), (sa, .inl (dA 0, 718, .inl (upd f ((12 + (3 * b)) + 0) (nI ((rcN f b) + (shipN f b k)))))), (pa, .inl (dA 0, 2872, .inl (chG v4 f g ps))), (ha, .inl (dA 0, 718, .inl h)), (xa, .inl (dA 0, 60, .inl tx)), (ta, .inl (dA 0, 3, .inl td))] := hD
          refine lv_iload hx hb dX4_ship_81 (lv_at hl 0 rfl) ?_
          exact z_iret (v := nI (shipN f b k)) hx hb hr hS (by rw [show oShip f (nI (b)) (nI (k)) = (true, nI (shipN f b k), upd f ((12 + (3 * b)) + 0) (nI ((rcN f b) + (shipN f b k)))) from by unfold oShip; simp only [nI_clamp (show b < 2 ^ 31 by omega), nI_clamp (show k < 2 ^ 31 by omega)]; (repeat' split) <;> first | rfl | contradiction | (exfalso; simp_all; done)]; exact ⟨rfl, hP⟩) (by omega) (by omega) dX4_ship_83
      · refine lv_ldc (v := (-1000002)) hx hb hown (hts _ q1383) dX4_ship_30 ?_
        exact z_iret (v := (-1000002)) hx hb hr hS (by rw [show oShip f (nI (b)) (nI (k)) = (false, (-1000002), f) from by unfold oShip; simp only [nI_clamp (show b < 2 ^ 31 by omega), nI_clamp (show k < 2 ^ 31 by omega)]; (repeat' split) <;> first | rfl | contradiction | (exfalso; simp_all; done)]; exact ⟨rfl, hP⟩) (by omega) (by omega) dX4_ship_32
    · have c_4 := bI_0.1 c_4
      refine lv_ldc (v := (-1000001)) hx hb hown (hts _ q1382) dX4_ship_17 ?_
      exact z_iret (v := (-1000001)) hx hb hr hS (by rw [show oShip f (nI (b)) k0 = (false, (-1000001), f) from by unfold oShip; simp only [nI_clamp (show b < 2 ^ 31 by omega)]; (repeat' split) <;> first | rfl | contradiction | (exfalso; simp_all; done)]; exact ⟨rfl, hP⟩) (by omega) (by omega) dX4_ship_19

set_option maxHeartbeats 4000000 in
set_option maxRecDepth 100000 in
theorem mX4_fillsGaps (l : Launch) (D : va_G) (dA : Nat → ClassId) (ad : Nat → Nat) (A : Nat → Prop) (sz : Nat) (m0 : Nat) (sa : Nat) (pa : Nat) (ha : Nat) (xa : Nat) (ta : Nat) (v4 : Int32) (v6 : Int32) (v7 : Int32) (v8 : Int32) (v9 : Int32) (v10 : Int32) (v11 : Int32) (v12 : Int32) (f : Nat → Int32) (ps : Nat) (g : Nat → Int32) (h : Nat → Int32) (tx : Nat → Int32) (td : Nat → Int32) (b : Nat) (fr : Nat) (hA : ∀ q, sz ≤ q → A q) (h1 : b < 2) (h2 : fr ≤ 100) (hD : va_D A [(m0, .inr (4, [.ref sa, .ref pa, .ref ha, .int (nI (ps)), .int v4, .ref xa, .int v6, .int v7, .int v8, .int v9, .int v10, .int v11, .int v12, .ref ta])), (sa, .inl (dA 0, 718, .inl f)), (pa, .inl (dA 0, 2872, .inl g)), (ha, .inl (dA 0, 718, .inl h)), (xa, .inl (dA 0, 60, .inl tx)), (ta, .inl (dA 0, 3, .inl td))]) : Met l yX4_fillsGaps (ws_ yX4_fillsGaps cX4_fillsGaps 4 none) ({ frames := 0, cells := 0, slots := 0, locals := 0 }) (va_Pc [.ref m0, .int (nI (b)), .int (nI (fr))] (zP D dA ad A sz (fun H => va_P D vwCl [(m0, .inr (4, [.ref sa, .ref pa, .ref ha, .int (nI (ps)), .int v4, .ref xa, .int v6, .int v7, .int v8, .int v9, .int v10, .int v11, .int v12, .ref ta])), (sa, .inl (dA 0, 718, .inl f)), (pa, .inl (dA 0, 2872, .inl g)), (ha, .inl (dA 0, 718, .inl h)), (xa, .inl (dA 0, 60, .inl tx)), (ta, .inl (dA 0, 3, .inl td))] H))) (zQv (fun H => True ∧ va_P D vwCl [(m0, .inr (4, [.ref sa, .ref pa, .ref ha, .int (nI (ps)), .int v4, .ref xa, .int v6, .int v7, .int v8, .int v9, .int v10, .int v11, .int v12, .ref ta])), (sa, .inl (dA 0, 718, .inl (fillG f b fr))), (pa, .inl (dA 0, 2872, .inl g)), (ha, .inl (dA 0, 718, .inl h)), (xa, .inl (dA 0, 60, .inl tx)), (ta, .inl (dA 0, 3, .inl td))] H) A) (0) (0) A := by
  refine Met.ofW (cc := cX4_fillsGaps) (maxL := 4) (ret := none) (by decide) rfl ?_
  intro p e s m args below meth c s₁ B hml hv
  obtain ⟨rfl, hsz, hC, hP⟩ := hv
  have hx := B.exec
  have hb := B.bytes
  have hr := B.returns
  have hts := atoms_spec (ws := ws_ yX4_fillsGaps cX4_fillsGaps 4 none) B.pre
  have hts : ∀ w ∈ lw_all, w.before _ s = true := fun w h => hts w (List.mem_cons_of_mem _ h)
  have hown : s.vm.findClass RX4 = some m.cls := findClass_of_methodNamed B.named
  have hlocks := B.notSynchronized
  subst hsz
  have hK := hC.K
  have hS : va_S A s.heap s.heap [] := va_S.rf
  have hP : va_P D vwCl [(m0, .inr (4, [.ref sa, .ref pa, .ref ha, .int (nI (ps)), .int v4, .ref xa, .int v6, .int v7, .int v8, .int v9, .int v10, .int v11, .int v12, .ref ta])), (sa, .inl (dA 0, 718, .inl f)), (pa, .inl (dA 0, 2872, .inl g)), (ha, .inl (dA 0, 718, .inl h)), (xa, .inl (dA 0, 60, .inl tx)), (ta, .inl (dA 0, 3, .inl td))] s.heap := hP
  have hl := lv_entry ([.ref m0, .int (nI (b)), .int (nI (fr))]) (n := 4) (Nat.le_of_ble_eq_true rfl)
  rw [lg_entry_eq]
  generalize (lg_sl ([.ref m0, .int (nI (b)), .int (nI (fr))]) ++ List.replicate (4 - (lg_sl ([.ref m0, .int (nI (b)), .int (nI (fr))])).length) Slot.unset).toArray = ls at hl ⊢
  have hl : lv_has ls 4 [(0, .ref m0), (1, .int (nI (b))), (2, .int (nI (fr)))] := hl
  refine lv_iload_n hx hb dX4_fillsGaps_0 rfl (lv_at hl 2 rfl) ?_
  refine lv_iconst (v := nI (1)) hx hb dX4_fillsGaps_1 (by decide) ?_
  refine lv_iadd hx hb dX4_fillsGaps_2 ?_
  refine lv_tope (y := nI (fr + 1)) (nI_add _ _) ?_
  rw [show (f : Nat → Int32) = fillGi f b fr 0 from fillGi_0 _ _ _] at hP hD
  refine lv_istore_n (lv' := [(3, .int (nI (fr + 1))), (0, .ref m0), (1, .int (nI (b))), (2, .int (nI (fr)))]) hx hb dX4_fillsGaps_3 rfl hl (by decide) rfl (fun ls hl => ?_)
  refine z_loop (σ := Nat) (fun i => 100 - fr - i) (fun i H locs ls => va_P D vwCl [(m0, .inr (4, [.ref sa, .ref pa, .ref ha, .int (nI (ps)), .int v4, .ref xa, .int v6, .int v7, .int v8, .int v9, .int v10, .int v11, .int v12, .ref ta])), (sa, .inl (dA 0, 718, .inl (fillGi f b fr i))), (pa, .inl (dA 0, 2872, .inl g)), (ha, .inl (dA 0, 718, .inl h)), (xa, .inl (dA 0, 60, .inl tx)), (ta, .inl (dA 0, 3, .inl td))] H ∧ va_D A [(m0, .inr (4, [.ref sa, .ref pa, .ref ha, .int (nI (ps)), .int v4, .ref xa, .int v6, .int v7, .int v8, .int v9, .int v10, .int v11, .int v12, .ref ta])), (sa, .inl (dA 0, 718, .inl (fillGi f b fr i))), (pa, .inl (dA 0, 2872, .inl g)), (ha, .inl (dA 0, 718, .inl h)), (xa, .inl (dA 0, 60, .inl tx)), (ta, .inl (dA 0, 3, .inl td))] ∧ va_S A s.heap H locs ∧ lv_has ls 4 [(0, .ref m0), (1, .int (nI (b))), (2, .int (nI (fr))), (3, .int (nI (fr + 1 + i)))] ∧ i ≤ 100 - fr) (0) ⟨hP, hD.same rfl, hS, (lv_sub (l' := [(0, .ref m0), (1, .int (nI (b))), (2, .int (nI (fr))), (3, .int (nI (fr + 1 + 0)))]) hl [1, 2, 3, 0] rfl), by omega⟩ ?_
  intro i H locs ls ⟨hP, hD, hS, hl, hi⟩ ih_4
  refine lv_iload_n hx hb dX4_fillsGaps_4 rfl (lv_at hl 3 rfl) ?_
  refine lv_bipush (v := nI (100)) hx hb dX4_fillsGaps_5 (by decide) ?_
  refine lv_icmp_gt (tgt := 33) hx hb dX4_fillsGaps_7 (by decide) (fun c_1 => ?_) (fun c_1 => ?_)
  · have c_1 := (nI_ltI (by omega) (by omega)).1 c_1
    exact z_vret hx hb hr hS (by rw [fillGi_e _ _ _ _ (by omega)] at hP; exact ⟨trivial, hP⟩) (by omega) (by omega) dX4_fillsGaps_33
  · have c_1 := mt (nI_ltI (by omega) (by omega)).2 c_1
    refine lv_aload_n hx hb dX4_fillsGaps_10 rfl (lv_at hl 0 rfl) ?_
    refine va_get (D := D) (ci := 4) (v := .ref sa) (C := RX4) (T := TX4) (N := 14) hx hb hts in_X4 hown hK hP 0 rfl rfl 0 (by decide) (hts _ q1329) (fun _ h9 => h9) rfl dX4_fillsGaps_11 ?_
    refine lv_bipush (v := nI (18)) hx hb dX4_fillsGaps_14 (by decide) ?_
    refine lv_bipush (v := nI (100)) hx hb dX4_fillsGaps_16 (by decide) ?_
    refine lv_iload_n hx hb dX4_fillsGaps_18 rfl (lv_at hl 1 rfl) ?_
    refine lv_imul hx hb dX4_fillsGaps_19 ?_
    refine lv_tope (y := nI (100 * b)) (pk_mul _ _) ?_
    refine lv_iadd hx hb dX4_fillsGaps_20 ?_
    refine lv_tope (y := nI (18 + (100 * b))) (nI_add _ _) ?_
    refine lv_iload_n hx hb dX4_fillsGaps_21 rfl (lv_at hl 3 rfl) ?_
    refine lv_iadd hx hb dX4_fillsGaps_22 ?_
    refine lv_tope (y := nI ((18 + (100 * b)) + (fr + 1 + i))) (nI_add _ _) ?_
    refine lv_iconst (v := nI (1)) hx hb dX4_fillsGaps_23 (by decide) ?_
    refine lv_isub hx hb dX4_fillsGaps_24 ?_
    refine lv_tope (y := nI (17 + 100 * b + (fr + 1 + i))) (by rw [pk_sub (show 1 ≤ 18 + 100 * b + (fr + 1 + i) by omega), show 18 + 100 * b + (fr + 1 + i) - 1 = 17 + 100 * b + (fr + 1 + i) by omega]) ?_
    refine lv_iconst (v := nI (0)) hx hb dX4_fillsGaps_25 (by decide) ?_
    refine va_iast hx hb hK hP hD hS 1 0 rfl rfl (vp_in_nI (by omega) (by omega)) dX4_fillsGaps_26 (fun H locs hP hD hS => ?_)
    rw [nI_clamp (by omega)] at hP hD
    have hP : va_P D vwCl [(m0, .inr (4, [.ref sa, .ref pa, .ref ha, .int (nI (ps)), .int v4, .ref xa, .int v6, .int v7, .int v8, .int v9, .int v10, .int v11, .int v12, .ref ta])), (sa, .inl (dA 0, 718, .inl (upd (fillGi f b fr i) (17 + 100 * b + (fr + 1 + i)) (nI (0))))), (pa, .inl (dA 0, 2872, .inl g)), (ha, .inl (dA 0, 718, .inl h)), (xa, .inl (dA 0, 60, .inl tx)), (ta, .inl (dA 0, 3, .inl td))] H := hP
    have hD : va_D A [(m0, .inr (4, [.ref sa, .ref pa, .ref ha, .int (nI (ps)), .int v4, .ref xa, .int v6, .int v7, .int v8, .int v9, .int v10, .int v11, .int v12, .ref ta])), (sa, .inl (dA 0, 718, .inl (upd (fillGi f b fr i) (17 + 100 * b + (fr + 1 + i)) (nI (0))))), (pa, .inl (dA 0, 2872, .inl g)), (ha, .inl (dA 0, 718, .inl h)), (xa, .inl (dA 0, 60, .inl tx)), (ta, .inl (dA 0, 3, .inl td))] := hD
    rw [show (upd (fillGi f b fr i) (17 + 100 * b + (fr + 1 + i)) (nI (0)) : Nat → Int32) = fillGi f b fr (i + 1) from fillGi_step _ _ _ _] at hP hD
    refine lv_iinc (v := nI (fr + 1 + i + 1)) (lv' := [(3, .int (nI (fr + 1 + i + 1))), (0, .ref m0), (1, .int (nI (b))), (2, .int (nI (fr)))]) hx hb dX4_fillsGaps_27 hl (k := 3) rfl (nI_add _ _) (by decide) rfl (fun ls hl => ?_)
    refine lv_goto (tgt := 4) hx hb dX4_fillsGaps_30 (by decide) ?_
    exact ih_4 (i + 1) H locs ls ⟨hP, hD.same rfl, hS, (lv_sub (l' := [(0, .ref m0), (1, .int (nI (b))), (2, .int (nI (fr))), (3, .int (nI (fr + 1 + (i + 1))))]) hl [1, 2, 3, 0] rfl), by omega⟩ (by omega)

set_option maxHeartbeats 4000000 in
set_option maxRecDepth 100000 in
theorem mX4_lose (l : Launch) (D : va_G) (dA : Nat → ClassId) (ad : Nat → Nat) (A : Nat → Prop) (sz : Nat) (m0 : Nat) (sa : Nat) (pa : Nat) (ha : Nat) (xa : Nat) (ta : Nat) (v4 : Int32) (v6 : Int32) (v7 : Int32) (v8 : Int32) (v9 : Int32) (v10 : Int32) (v11 : Int32) (v12 : Int32) (f : Nat → Int32) (ps : Nat) (g : Nat → Int32) (h : Nat → Int32) (tx : Nat → Int32) (td : Nat → Int32) (sb : Int32) (r0 : Int32) (hA : ∀ q, sz ≤ q → A q) (hp4 : ps ≤ 4) (hI : InvA f) (hD : va_D A [(m0, .inr (4, [.ref sa, .ref pa, .ref ha, .int (nI (ps)), .int v4, .ref xa, .int v6, .int v7, .int v8, .int v9, .int v10, .int v11, .int v12, .ref ta])), (sa, .inl (dA 0, 718, .inl f)), (pa, .inl (dA 0, 2872, .inl g)), (ha, .inl (dA 0, 718, .inl h)), (xa, .inl (dA 0, 60, .inl tx)), (ta, .inl (dA 0, 3, .inl td))]) : Met l yX4_lose (ws_ yX4_lose cX4_lose 3 (some .int)) ({ frames := 2, cells := 0, slots := 0, locals := 60 }) (va_Pc [.ref m0, .int sb, .int r0] (zP D dA ad A sz (fun H => va_P D vwCl [(m0, .inr (4, [.ref sa, .ref pa, .ref ha, .int (nI (ps)), .int v4, .ref xa, .int v6, .int v7, .int v8, .int v9, .int v10, .int v11, .int v12, .ref ta])), (sa, .inl (dA 0, 718, .inl f)), (pa, .inl (dA 0, 2872, .inl g)), (ha, .inl (dA 0, 718, .inl h)), (xa, .inl (dA 0, 60, .inl tx)), (ta, .inl (dA 0, 3, .inl td))] H))) (zQi (fun rz H => rz = (oLose f sb r0).2.1 ∧ va_P D vwCl [(m0, .inr (4, [.ref sa, .ref pa, .ref ha, .int (nI (gP (oLose f sb r0).1 v4 ps)), .int v4, .ref xa, .int v6, .int v7, .int v8, .int v9, .int v10, .int v11, .int v12, .ref ta])), (sa, .inl (dA 0, 718, .inl ((oLose f sb r0).2.2))), (pa, .inl (dA 0, 2872, .inl (gG (oLose f sb r0).1 v4 f g ps))), (ha, .inl (dA 0, 718, .inl h)), (xa, .inl (dA 0, 60, .inl tx)), (ta, .inl (dA 0, 3, .inl td))] H) A) (0) (0) A := by
  refine Met.ofW (cc := cX4_lose) (maxL := 3) (ret := (some .int)) (by decide) rfl ?_
  intro p e s m args below meth c s₁ B hml hv
  obtain ⟨rfl, hsz, hC, hP⟩ := hv
  have hx := B.exec
  have hb := B.bytes
  have hr := B.returns
  have hts := atoms_spec (ws := ws_ yX4_lose cX4_lose 3 (some .int)) B.pre
  have hts : ∀ w ∈ lw_all, w.before _ s = true := fun w h => hts w (List.mem_cons_of_mem _ h)
  have hown : s.vm.findClass RX4 = some m.cls := findClass_of_methodNamed B.named
  have hlocks := B.notSynchronized
  subst hsz
  have hK := hC.K
  have hS : va_S A s.heap s.heap [] := va_S.rf
  have hP : va_P D vwCl [(m0, .inr (4, [.ref sa, .ref pa, .ref ha, .int (nI (ps)), .int v4, .ref xa, .int v6, .int v7, .int v8, .int v9, .int v10, .int v11, .int v12, .ref ta])), (sa, .inl (dA 0, 718, .inl f)), (pa, .inl (dA 0, 2872, .inl g)), (ha, .inl (dA 0, 718, .inl h)), (xa, .inl (dA 0, 60, .inl tx)), (ta, .inl (dA 0, 3, .inl td))] s.heap := hP
  have hI0 := hI
  obtain ⟨hf0, hn, hsb, hrt, hrt2⟩ := hI
  have hl := lv_entry ([.ref m0, .int sb, .int r0]) (n := 3) (Nat.le_of_ble_eq_true rfl)
  rw [lg_entry_eq]
  generalize (lg_sl ([.ref m0, .int sb, .int r0]) ++ List.replicate (3 - (lg_sl ([.ref m0, .int sb, .int r0])).length) Slot.unset).toArray = ls at hl ⊢
  have hl : lv_has ls 3 [(0, .ref m0), (1, .int sb), (2, .int r0)] := hl
  refine lv_iload_n hx hb dX4_lose_0 rfl (lv_at hl 1 rfl) ?_
  refine z_cSi (As := [.int sb]) (rest := []) ⟨hx, hb, hml, hown, hts⟩ (mX4_isStandby l D dA ad s.heap.size sb) (va_cwS 1 hts (lw_S q1417 q1418 q67 q1419) rfl rfl rfl (by decide +kernel) ⟨Nat.le_of_ble_eq_true rfl, Nat.le_of_ble_eq_true rfl⟩) hC hS (fun _ h => hA _ (Nat.le_trans hS.1 h)) trivial rfl rfl hl.1 (Nat.le_of_ble_eq_true rfl) dX4_lose_1 ⟨Nat.le_of_ble_eq_true rfl, Nat.le_of_ble_eq_true rfl⟩ (fun r_1 H locs hQ hF hS => ?_)
  have hP := va_P.ro hF hP
  obtain rfl : bI (nI (0) ≤ sb ∧ sb ≤ nI (1)) = r_1 := hQ.symm
  refine lv_if_eq (tgt := 12) hx hb dX4_lose_4 (by decide) (fun c_2 => ?_) (fun c_2 => ?_)
  · have c_2 := bI_0.1 c_2
    refine lv_ldc (v := (-1000001)) hx hb hown (hts _ q1382) dX4_lose_12 ?_
    exact z_iret (v := (-1000001)) hx hb hr hS (by rw [show oLose f sb r0 = (false, (-1000001), f) from by unfold oLose; (repeat' split) <;> first | rfl | contradiction | exact absurd ‹_ ≤ sbf f b 0› (Int32.not_le.2 (by assumption)) | (exfalso; simp_all; done)]; exact ⟨rfl, hP⟩) (by omega) (by omega) dX4_lose_14
  · have c_2 := bI_1.1 c_2
    obtain ⟨b, h1, rfl⟩ := zr_of (N := 1) c_2 (by decide)
    have h1 : b < 2 := (by omega)
    obtain ⟨hrc, hap, har, hrl⟩ := hsb b h1
    refine lv_iload_n hx hb dX4_lose_7 rfl (lv_at hl 2 rfl) ?_
    refine lv_iconst (v := nI (1)) hx hb dX4_lose_8 (by decide) ?_
    refine lv_icmp_ge (tgt := 15) hx hb dX4_lose_9 (by decide) (fun c_3 => ?_) (fun c_3 => ?_)
    · refine lv_aload_n hx hb dX4_lose_15 rfl (lv_at hl 0 rfl) ?_
      refine lv_iload_n hx hb dX4_lose_16 rfl (lv_at hl 1 rfl) ?_
      refine lv_iconst (v := nI (2)) hx hb dX4_lose_17 (by decide) ?_
      refine z_cVi (As := [.int (nI (b)), .int (nI (2))]) (rest := []) ⟨hx, hb, hml, hown, hts⟩ (mX4_ofStandby l D dA ad H.size m0 sa pa ha xa ta (nI (ps)) v4 v6 v7 v8 v9 v10 v11 v12 f b 2 (by omega) (by omega)) (cwV 2 hts (lw_V q1420 q1422 qs30 q67 q1423) rfl rfl rfl (by decide +kernel) ⟨Nat.le_of_ble_eq_true rfl, Nat.le_of_ble_eq_true rfl⟩) hC hS (fun _ h => hA _ (Nat.le_trans hS.1 h)) (hP.sub (ws' := [(m0, .inr (4, [.ref sa, .ref pa, .ref ha, .int (nI (ps)), .int v4, .ref xa, .int v6, .int v7, .int v8, .int v9, .int v10, .int v11, .int v12, .ref ta])), (sa, .inl (dA 0, 718, .inl f))]) [0, 1] rfl) (va_recv hK hP (ci := 4) (q0 := 0) rfl rfl) rfl rfl hl.1 (Nat.le_of_ble_eq_true rfl) dX4_lose_18 ⟨Nat.le_of_ble_eq_true rfl, Nat.le_of_ble_eq_true rfl⟩ (fun r_4 H locs hQ hF hS => ?_)
      have hP := va_P.ro hF hP
      obtain rfl : sbf f b 2 = r_4 := hQ.symm
      refine lv_iconst (v := nI (1)) hx hb dX4_lose_21 (by decide) ?_
      refine lv_icmp_eq (tgt := 54) hx hb dX4_lose_22 (by decide) (fun c_5 => ?_) (fun c_5 => ?_)
      · refine lv_ldc (v := (-1000002)) hx hb hown (hts _ q1383) dX4_lose_54 ?_
        exact z_iret (v := (-1000002)) hx hb hr hS (by rw [show oLose f (nI (b)) r0 = (false, (-1000002), f) from by unfold oLose; simp only [nI_clamp (show b < 2 ^ 31 by omega)]; (repeat' split) <;> first | rfl | contradiction | exact absurd ‹_ ≤ sbf f b 0› (Int32.not_le.2 (by assumption)) | (exfalso; simp_all; done)]; exact ⟨rfl, hP⟩) (by omega) (by omega) dX4_lose_56
      · refine lv_iload_n hx hb dX4_lose_25 rfl (lv_at hl 2 rfl) ?_
        refine lv_aload_n hx hb dX4_lose_26 rfl (lv_at hl 0 rfl) ?_
        refine lv_iload_n hx hb dX4_lose_27 rfl (lv_at hl 1 rfl) ?_
        refine lv_iconst (v := nI (0)) hx hb dX4_lose_28 (by decide) ?_
        refine z_cVi (As := [.int (nI (b)), .int (nI (0))]) (rest := [.int r0]) ⟨hx, hb, hml, hown, hts⟩ (mX4_ofStandby l D dA ad H.size m0 sa pa ha xa ta (nI (ps)) v4 v6 v7 v8 v9 v10 v11 v12 f b 0 (by omega) (by omega)) (cwV 2 hts (lw_V q1420 q1422 qs30 q67 q1423) rfl rfl rfl (by decide +kernel) ⟨Nat.le_of_ble_eq_true rfl, Nat.le_of_ble_eq_true rfl⟩) hC hS (fun _ h => hA _ (Nat.le_trans hS.1 h)) (hP.sub (ws' := [(m0, .inr (4, [.ref sa, .ref pa, .ref ha, .int (nI (ps)), .int v4, .ref xa, .int v6, .int v7, .int v8, .int v9, .int v10, .int v11, .int v12, .ref ta])), (sa, .inl (dA 0, 718, .inl f))]) [0, 1] rfl) (va_recv hK hP (ci := 4) (q0 := 0) rfl rfl) rfl rfl hl.1 (Nat.le_of_ble_eq_true rfl) dX4_lose_29 ⟨Nat.le_of_ble_eq_true rfl, Nat.le_of_ble_eq_true rfl⟩ (fun r_6 H locs hQ hF hS => ?_)
        have hP := va_P.ro hF hP
        obtain rfl : sbf f b 0 = r_6 := hQ.symm
        refine lv_icmp_gt (tgt := 54) hx hb dX4_lose_32 (by decide) (fun c_7 => ?_) (fun c_7 => ?_)
        · refine lv_ldc (v := (-1000002)) hx hb hown (hts _ q1383) dX4_lose_54 ?_
          exact z_iret (v := (-1000002)) hx hb hr hS (by rw [show oLose f (nI (b)) r0 = (false, (-1000002), f) from by unfold oLose; simp only [nI_clamp (show b < 2 ^ 31 by omega)]; (repeat' split) <;> first | rfl | contradiction | exact absurd ‹_ ≤ sbf f b 0› (Int32.not_le.2 (by assumption)) | (exfalso; simp_all; done)]; exact ⟨rfl, hP⟩) (by omega) (by omega) dX4_lose_56
        · have hr2 := (Int32.not_lt.1 c_7)
          have hr3 : r0 ≤ sbf f b 0 := hr2
          rw [hrc] at hr2
          obtain ⟨r, hr9, rfl⟩ := zr_of (k := r0) (N := rcN f b) ⟨Int32.le_trans (by decide) c_3, hr2⟩ (by omega)
          have hr1 := (nI_leI (by omega) (by omega)).1 c_3
          refine lv_iload_n hx hb dX4_lose_35 rfl (lv_at hl 2 rfl) ?_
          refine lv_aload_n hx hb dX4_lose_36 rfl (lv_at hl 0 rfl) ?_
          refine lv_iload_n hx hb dX4_lose_37 rfl (lv_at hl 1 rfl) ?_
          refine lv_iconst (v := nI (1)) hx hb dX4_lose_38 (by decide) ?_
          refine z_cVi (As := [.int (nI (b)), .int (nI (1))]) (rest := [.int (nI (r))]) ⟨hx, hb, hml, hown, hts⟩ (mX4_ofStandby l D dA ad H.size m0 sa pa ha xa ta (nI (ps)) v4 v6 v7 v8 v9 v10 v11 v12 f b 1 (by omega) (by omega)) (cwV 2 hts (lw_V q1420 q1422 qs30 q67 q1423) rfl rfl rfl (by decide +kernel) ⟨Nat.le_of_ble_eq_true rfl, Nat.le_of_ble_eq_true rfl⟩) hC hS (fun _ h => hA _ (Nat.le_trans hS.1 h)) (hP.sub (ws' := [(m0, .inr (4, [.ref sa, .ref pa, .ref ha, .int (nI (ps)), .int v4, .ref xa, .int v6, .int v7, .int v8, .int v9, .int v10, .int v11, .int v12, .ref ta])), (sa, .inl (dA 0, 718, .inl f))]) [0, 1] rfl) (va_recv hK hP (ci := 4) (q0 := 0) rfl rfl) rfl rfl hl.1 (Nat.le_of_ble_eq_true rfl) dX4_lose_39 ⟨Nat.le_of_ble_eq_true rfl, Nat.le_of_ble_eq_true rfl⟩ (fun r_8 H locs hQ hF hS => ?_)
          have hP := va_P.ro hF hP
          obtain rfl : sbf f b 1 = r_8 := hQ.symm
          refine lv_icmp_le (tgt := 54) hx hb dX4_lose_42 (by decide) (fun c_9 => ?_) (fun c_9 => ?_)
          · refine lv_ldc (v := (-1000002)) hx hb hown (hts _ q1383) dX4_lose_54 ?_
            exact z_iret (v := (-1000002)) hx hb hr hS (by rw [show oLose f (nI (b)) (nI (r)) = (false, (-1000002), f) from by unfold oLose; simp only [nI_clamp (show b < 2 ^ 31 by omega), nI_clamp (show r < 2 ^ 31 by omega)]; (repeat' split) <;> first | rfl | contradiction | exact absurd ‹_ ≤ sbf f b 0› (Int32.not_le.2 (by assumption)) | (exfalso; simp_all; done)]; exact ⟨rfl, hP⟩) (by omega) (by omega) dX4_lose_56
          · refine lv_aload_n hx hb dX4_lose_45 rfl (lv_at hl 0 rfl) ?_
            refine lv_iload_n hx hb dX4_lose_46 rfl (lv_at hl 1 rfl) ?_
            refine lv_iload_n hx hb dX4_lose_47 rfl (lv_at hl 2 rfl) ?_
            refine z_cVi (As := [.int (nI (b)), .int (nI (r))]) (rest := []) ⟨hx, hb, hml, hown, hts⟩ (mX4_isGap l D dA ad H.size m0 sa pa ha xa ta (nI (ps)) v4 v6 v7 v8 v9 v10 v11 v12 f b r (by omega) (by omega) (by omega)) (cwV 2 hts (lw_V q1428 q1430 qs31 q67 q1431) rfl rfl rfl (by decide +kernel) ⟨Nat.le_of_ble_eq_true rfl, Nat.le_of_ble_eq_true rfl⟩) hC hS (fun _ h => hA _ (Nat.le_trans hS.1 h)) (hP.sub (ws' := [(m0, .inr (4, [.ref sa, .ref pa, .ref ha, .int (nI (ps)), .int v4, .ref xa, .int v6, .int v7, .int v8, .int v9, .int v10, .int v11, .int v12, .ref ta])), (sa, .inl (dA 0, 718, .inl f))]) [0, 1] rfl) (va_recv hK hP (ci := 4) (q0 := 0) rfl rfl) rfl rfl hl.1 (Nat.le_of_ble_eq_true rfl) dX4_lose_48 ⟨Nat.le_of_ble_eq_true rfl, Nat.le_of_ble_eq_true rfl⟩ (fun r_10 H locs hQ hF hS => ?_)
            have hP := va_P.ro hF hP
            obtain rfl : bI (gpf f b r) = r_10 := hQ.symm
            refine lv_if_eq (tgt := 57) hx hb dX4_lose_51 (by decide) (fun c_11 => ?_) (fun c_11 => ?_)
            · have c_11 := bI_0.1 c_11
              refine lv_aload_n hx hb dX4_lose_57 rfl (lv_at hl 0 rfl) ?_
              refine z_cVv (As := []) (rest := []) ⟨hx, hb, hml, hown, hts⟩ (mX4_changes l D dA ad A H.size m0 sa pa ha xa ta v4 v6 v7 v8 v9 v10 v11 v12 f ps g h tx td (hA_up hA hS) (by omega) (hD.sub [0, 1, 2, 3, 4, 5] (by decide) rfl)) (cwV 0 hts (lw_V q1384 q1386 qs27 q67 q1387) rfl rfl rfl (by decide +kernel) ⟨Nat.le_of_ble_eq_true rfl, Nat.le_of_ble_eq_true rfl⟩) hC hS (fun _ h => h) (hP.sub (ws' := [(m0, .inr (4, [.ref sa, .ref pa, .ref ha, .int (nI (ps)), .int v4, .ref xa, .int v6, .int v7, .int v8, .int v9, .int v10, .int v11, .int v12, .ref ta])), (sa, .inl (dA 0, 718, .inl f)), (pa, .inl (dA 0, 2872, .inl g)), (ha, .inl (dA 0, 718, .inl h)), (xa, .inl (dA 0, 60, .inl tx)), (ta, .inl (dA 0, 3, .inl td))]) [0, 1, 2, 3, 4, 5] rfl) (va_recv hK hP (ci := 4) (q0 := 0) rfl rfl) rfl rfl hl.1 (Nat.le_of_ble_eq_true rfl) dX4_lose_58 ⟨Nat.le_of_ble_eq_true rfl, Nat.le_of_ble_eq_true rfl⟩ (fun H locs hQ hF hS => ?_)
              obtain ⟨hQ, hP⟩ := hQ
              have hD := va_D.same (ws' := [(m0, .inr (4, [.ref sa, .ref pa, .ref ha, .int (nI (chP v4 ps)), .int v4, .ref xa, .int v6, .int v7, .int v8, .int v9, .int v10, .int v11, .int v12, .ref ta])), (sa, .inl (dA 0, 718, .inl f)), (pa, .inl (dA 0, 2872, .inl (chG v4 f g ps))), (ha, .inl (dA 0, 718, .inl h)), (xa, .inl (dA 0, 60, .inl tx)), (ta, .inl (dA 0, 3, .inl td))]) (hD.sub (ws' := [(m0, .inr (4, [.ref sa, .ref pa, .ref ha, .int (nI (ps)), .int v4, .ref xa, .int v6, .int v7, .int v8, .int v9, .int v10, .int v11, .int v12, .ref ta])), (sa, .inl (dA 0, 718, .inl f)), (pa, .inl (dA 0, 2872, .inl g)), (ha, .inl (dA 0, 718, .inl h)), (xa, .inl (dA 0, 60, .inl tx)), (ta, .inl (dA 0, 3, .inl td))]) [0, 1, 2, 3, 4, 5] (by decide) rfl) rfl
              have hP : va_P D vwCl [(m0, .inr (4, [.ref sa, .ref pa, .ref ha, .int (nI (chP v4 ps)), .int v4, .ref xa, .int v6, .int v7, .int v8, .int v9, .int v10, .int v11, .int v12, .ref ta])), (sa, .inl (dA 0, 718, .inl f)), (pa, .inl (dA 0, 2872, .inl (chG v4 f g ps))), (ha, .inl (dA 0, 718, .inl h)), (xa, .inl (dA 0, 60, .inl tx)), (ta, .inl (dA 0, 3, .inl td))] H := hP
              have hD : va_D A [(m0, .inr (4, [.ref sa, .ref pa, .ref ha, .int (nI (chP v4 ps)), .int v4, .ref xa, .int v6, .int v7, .int v8, .int v9, .int v10, .int v11, .int v12, .ref ta])), (sa, .inl (dA 0, 718, .inl f)), (pa, .inl (dA 0, 2872, .inl (chG v4 f g ps))), (ha, .inl (dA 0, 718, .inl h)), (xa, .inl (dA 0, 60, .inl tx)), (ta, .inl (dA 0, 3, .inl td))] := hD
              refine lv_aload_n hx hb dX4_lose_61 rfl (lv_at hl 0 rfl) ?_
              refine va_get (D := D) (ci := 4) (v := .ref sa) (C := RX4) (T := TX4) (N := 14) hx hb hts in_X4 hown hK hP 0 rfl rfl 0 (by decide) (hts _ q1329) (fun _ h9 => h9) rfl dX4_lose_62 ?_
              refine lv_bipush (v := nI (18)) hx hb dX4_lose_65 (by decide) ?_
              refine lv_bipush (v := nI (100)) hx hb dX4_lose_67 (by decide) ?_
              refine lv_iload_n hx hb dX4_lose_69 rfl (lv_at hl 1 rfl) ?_
              refine lv_imul hx hb dX4_lose_70 ?_
              refine lv_tope (y := nI (100 * b)) (pk_mul _ _) ?_
              refine lv_iadd hx hb dX4_lose_71 ?_
              refine lv_tope (y := nI (18 + (100 * b))) (nI_add _ _) ?_
              refine lv_iload_n hx hb dX4_lose_72 rfl (lv_at hl 2 rfl) ?_
              refine lv_iadd hx hb dX4_lose_73 ?_
              refine lv_tope (y := nI ((18 + (100 * b)) + r)) (nI_add _ _) ?_
              refine lv_iconst (v := nI (1)) hx hb dX4_lose_74 (by decide) ?_
              refine lv_isub hx hb dX4_lose_75 ?_
              refine lv_tope (y := nI (17 + 100 * b + r)) (by rw [pk_sub (show 1 ≤ 18 + 100 * b + r by omega), show 18 + 100 * b + r - 1 = 17 + 100 * b + r by omega]) ?_
              refine lv_iconst (v := nI (1)) hx hb dX4_lose_76 (by decide) ?_
              refine va_iast hx hb hK hP hD hS 1 0 rfl rfl (vp_in_nI (by omega) (by omega)) dX4_lose_77 (fun H locs hP hD hS => ?_)
              rw [nI_clamp (by omega)] at hP hD
              have hP : va_P D vwCl [(m0, .inr (4, [.ref sa, .ref pa, .ref ha, .int (nI (chP v4 ps)), .int v4, .ref xa, .int v6, .int v7, .int v8, .int v9, .int v10, .int v11, .int v12, .ref ta])), (sa, .inl (dA 0, 718, .inl (upd f (17 + 100 * b + r) (nI (1))))), (pa, .inl (dA 0, 2872, .inl (chG v4 f g ps))), (ha, .inl (dA 0, 718, .inl h)), (xa, .inl (dA 0, 60, .inl tx)), (ta, .inl (dA 0, 3, .inl td))] H := hP
              have hD : va_D A [(m0, .inr (4, [.ref sa, .ref pa, .ref ha, .int (nI (chP v4 ps)), .int v4, .ref xa, .int v6, .int v7, .int v8, .int v9, .int v10, .int v11, .int v12, .ref ta])), (sa, .inl (dA 0, 718, .inl (upd f (17 + 100 * b + r) (nI (1))))), (pa, .inl (dA 0, 2872, .inl (chG v4 f g ps))), (ha, .inl (dA 0, 718, .inl h)), (xa, .inl (dA 0, 60, .inl tx)), (ta, .inl (dA 0, 3, .inl td))] := hD
              refine lv_aload_n hx hb dX4_lose_78 rfl (lv_at hl 0 rfl) ?_
              refine va_get (D := D) (ci := 4) (v := .ref sa) (C := RX4) (T := TX4) (N := 14) hx hb hts in_X4 hown hK hP 0 rfl rfl 0 (by decide) (hts _ q1329) (fun _ h9 => h9) rfl dX4_lose_79 ?_
              refine lv_iconst (v := nI (5)) hx hb dX4_lose_82 (by decide) ?_
              refine lv_dup2_11 hx hb dX4_lose_83 rfl rfl ?_
              refine va_iald hx hb hK hP 1 0 rfl rfl (vp_in_nI (by omega) (by omega)) dX4_lose_84 ?_
              refine lv_tope (y := (upd f (17 + 100 * b + r) (nI (1))) 5) (by rw [nI_clamp (by omega)]) ?_
              refine lv_tope (y := f 5) (by simp only [upd]; repeat (first | rw [if_neg (by omega)] | rw [if_pos (by omega)])) ?_
              refine lv_iconst (v := nI (1)) hx hb dX4_lose_85 (by decide) ?_
              refine lv_iadd hx hb dX4_lose_86 ?_
              refine va_iast hx hb hK hP hD hS 1 0 rfl rfl (vp_in_nI (by omega) (by omega)) dX4_lose_87 (fun H locs hP hD hS => ?_)
              rw [nI_clamp (by omega)] at hP hD
              have hP : va_P D vwCl [(m0, .inr (4, [.ref sa, .ref pa, .ref ha, .int (nI (chP v4 ps)), .int v4, .ref xa, .int v6, .int v7, .int v8, .int v9, .int v10, .int v11, .int v12, .ref ta])), (sa, .inl (dA 0, 718, .inl (upd (upd f (17 + 100 * b + r) (nI (1))) 5 ((f 5) + (nI (1)))))), (pa, .inl (dA 0, 2872, .inl (chG v4 f g ps))), (ha, .inl (dA 0, 718, .inl h)), (xa, .inl (dA 0, 60, .inl tx)), (ta, .inl (dA 0, 3, .inl td))] H := hP
              have hD : va_D A [(m0, .inr (4, [.ref sa, .ref pa, .ref ha, .int (nI (chP v4 ps)), .int v4, .ref xa, .int v6, .int v7, .int v8, .int v9, .int v10, .int v11, .int v12, .ref ta])), (sa, .inl (dA 0, 718, .inl (upd (upd f (17 + 100 * b + r) (nI (1))) 5 ((f 5) + (nI (1)))))), (pa, .inl (dA 0, 2872, .inl (chG v4 f g ps))), (ha, .inl (dA 0, 718, .inl h)), (xa, .inl (dA 0, 60, .inl tx)), (ta, .inl (dA 0, 3, .inl td))] := hD
              rw [show (upd (upd f (17 + 100 * b + r) (nI (1))) 5 ((f 5) + (nI (1))) : Nat → Int32) = loseF f b r from rfl] at hP hD
              refine lv_aload_n hx hb dX4_lose_88 rfl (lv_at hl 0 rfl) ?_
              refine lv_iload_n hx hb dX4_lose_89 rfl (lv_at hl 1 rfl) ?_
              refine z_cVi (As := [.int (nI (b))]) (rest := []) ⟨hx, hb, hml, hown, hts⟩ (mX4_gaps l D dA ad H.size m0 sa pa ha xa ta (nI (chP v4 ps)) v4 v6 v7 v8 v9 v10 v11 v12 (loseF f b r) b (by omega)) (cwV 1 hts (lw_V q1432 q1434 qs32 q67 q1435) rfl rfl rfl (by decide +kernel) ⟨Nat.le_of_ble_eq_true rfl, Nat.le_of_ble_eq_true rfl⟩) hC hS (fun _ h => hA _ (Nat.le_trans hS.1 h)) (hP.sub (ws' := [(m0, .inr (4, [.ref sa, .ref pa, .ref ha, .int (nI (chP v4 ps)), .int v4, .ref xa, .int v6, .int v7, .int v8, .int v9, .int v10, .int v11, .int v12, .ref ta])), (sa, .inl (dA 0, 718, .inl (loseF f b r)))]) [0, 1] rfl) (va_recv hK hP (ci := 4) (q0 := 0) rfl rfl) rfl rfl hl.1 (Nat.le_of_ble_eq_true rfl) dX4_lose_90 ⟨Nat.le_of_ble_eq_true rfl, Nat.le_of_ble_eq_true rfl⟩ (fun r_13 H locs hQ hF hS => ?_)
              have hP := va_P.ro hF hP
              obtain rfl : nI (gaps (loseF f b r) b 100) = r_13 := hQ.symm
              exact z_iret (v := nI (gaps (loseF f b r) b 100)) hx hb hr hS (by rw [show oLose f (nI (b)) (nI (r)) = (true, nI (gaps (loseF f b r) b 100), loseF f b r) from by unfold oLose; simp only [nI_clamp (show b < 2 ^ 31 by omega), nI_clamp (show r < 2 ^ 31 by omega)]; (repeat' split) <;> first | rfl | contradiction | exact absurd ‹_ ≤ sbf f b 0› (Int32.not_le.2 (by assumption)) | (exfalso; simp_all; done)]; exact ⟨rfl, hP⟩) (by omega) (by omega) dX4_lose_93
            · have c_11 := bI_1.1 c_11
              refine lv_ldc (v := (-1000002)) hx hb hown (hts _ q1383) dX4_lose_54 ?_
              exact z_iret (v := (-1000002)) hx hb hr hS (by rw [show oLose f (nI (b)) (nI (r)) = (false, (-1000002), f) from by unfold oLose; simp only [nI_clamp (show b < 2 ^ 31 by omega), nI_clamp (show r < 2 ^ 31 by omega)]; (repeat' split) <;> first | rfl | contradiction | exact absurd ‹_ ≤ sbf f b 0› (Int32.not_le.2 (by assumption)) | (exfalso; simp_all; done)]; exact ⟨rfl, hP⟩) (by omega) (by omega) dX4_lose_56
    · refine lv_ldc (v := (-1000001)) hx hb hown (hts _ q1382) dX4_lose_12 ?_
      exact z_iret (v := (-1000001)) hx hb hr hS (by rw [show oLose f (nI (b)) r0 = (false, (-1000001), f) from by unfold oLose; simp only [nI_clamp (show b < 2 ^ 31 by omega)]; (repeat' split) <;> first | rfl | contradiction | exact absurd ‹_ ≤ sbf f b 0› (Int32.not_le.2 (by assumption)) | (exfalso; simp_all; done)]; exact ⟨rfl, hP⟩) (by omega) (by omega) dX4_lose_14
