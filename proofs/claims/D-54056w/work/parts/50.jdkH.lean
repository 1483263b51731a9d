set_option maxHeartbeats 4000000 in
set_option maxRecDepth 100000 in
theorem mJ3_or (l : Launch) (D : va_G) (dA : Nat → ClassId) (ad : Nat → Nat) (A : Nat → Prop) (sz : Nat) (bs : Nat) (bw : Nat) (stk : Int32) (ob : Nat) (ow : Nat) (st2 : Int32) (Wb : Nat) (hA : ∀ q, sz ≤ q → A q) (hW : Wb < 2 ^ 101) (hD : va_D A [(bs, .inr (10, [.ref bw, .int (nI (0)), .int stk])), (bw, .inl (dA 1, 2, .inr (.inl (lwd 0))))]) : Met l yJ3_or (ws_ yJ3_or cJ3_or 4 none) ({ frames := 1, cells := 0, slots := 0, locals := 60 }) (va_Pc [.ref bs, .ref ob] (zP D dA ad A sz (fun H => va_P D vwCl [(bs, .inr (10, [.ref bw, .int (nI (0)), .int stk])), (bw, .inl (dA 1, 2, .inr (.inl (lwd 0))))] H ∧ zFz D A [(ob, .inr (10, [.ref ow, .int (nI (uOf Wb)), .int st2])), (ow, .inl (dA 1, 2, .inr (.inl (lwd Wb))))] H))) (zQv (fun H => True ∧ va_P D vwCl [(bs, .inr (10, [.ref bw, .int (nI (uOf Wb)), .int stk])), (bw, .inl (dA 1, 2, .inr (.inl (lwd Wb))))] H) A) (0) (0) A := by
  refine Met.ofW (cc := cJ3_or) (maxL := 4) (ret := none) (by decide) rfl ?_
  intro p e s m args below meth c s₁ B hml hv
  obtain ⟨rfl, hsz, hC, hP⟩ := hv
  have hx := B.exec
  have hb := B.bytes
  have hr := B.returns
  have hts := atoms_spec (ws := ws_ yJ3_or cJ3_or 4 none) B.pre
  have hts : ∀ w ∈ lw_all, w.before _ s = true := fun w h => hts w (List.mem_cons_of_mem _ h)
  have hown : s.vm.findClass RJ3 = some m.cls := findClass_of_methodNamed B.named
  have hlocks := B.notSynchronized
  subst hsz
  have hK := hC.K
  have hS : va_S A s.heap s.heap [] := va_S.rf
  obtain ⟨hP, hZ⟩ := hP
  have hP : va_P D vwCl [(bs, .inr (10, [.ref bw, .int (nI (0)), .int stk])), (bw, .inl (dA 1, 2, .inr (.inl (lwd 0))))] s.heap := hP
  have hl := lv_entry ([.ref bs, .ref ob]) (n := 4) (Nat.le_of_ble_eq_true rfl)
  rw [lg_entry_eq]
  generalize (lg_sl ([.ref bs, .ref ob]) ++ List.replicate (4 - (lg_sl ([.ref bs, .ref ob])).length) Slot.unset).toArray = ls at hl ⊢
  have hl : lv_has ls 4 [(0, .ref bs), (1, .ref ob)] := hl
  rcases uOf_c Wb with ⟨hu, hu2⟩ | ⟨hu, hu2, hu3⟩ | ⟨hu, hu2⟩
  · rw [hu] at hZ
    refine lv_aload_n hx hb dJ3_or_0 rfl (lv_at hl 0 rfl) ?_
    refine lv_aload_n hx hb dJ3_or_1 rfl (lv_at hl 1 rfl) ?_
    refine lv_acmp_ne (tgt := 6) (rx := some bs) (ry := some ob) hx hb dJ3_or_2 (by decide) (fun c_1 => ?_) (fun c_1 => ?_)
    · refine lv_aload_n hx hb dJ3_or_6 rfl (lv_at hl 0 rfl) ?_
      refine va_get (D := D) (ci := 10) (v := .int (nI (0))) (C := RJ3) (T := TJ3) (N := 3) hx hb hts in_J3 hown hK hP 0 rfl rfl 1 (by decide) (hts _ q161) (fun _ h9 => h9) rfl dJ3_or_7 ?_
      refine lv_aload_n hx hb dJ3_or_10 rfl (lv_at hl 1 rfl) ?_
      refine va_get (D := D) (ci := 10) (v := .int (nI (0))) (C := RJ3) (T := TJ3) (N := 3) hx hb hts in_J3 hown hK (hZ.at hS) 0 rfl rfl 1 (by decide) (hts _ q161) (fun _ h9 => h9) rfl dJ3_or_11 ?_
      refine va_mmin hx hb (hml.trans hl.1.symm) hown (hts _ q425) (hts _ q410) (hts _ q70) (hts _ q411) (Nat.le_of_ble_eq_true rfl) (Nat.le_of_ble_eq_true rfl) (by first | exact Nat.le_of_ble_eq_true rfl | (show _ ≤ _; simp only [headSpec]; omega)) (by first | exact Nat.le_of_ble_eq_true rfl | (show _ ≤ _; simp only [headSpec]; omega)) dJ3_or_14 ?_
      refine lv_tope (y := nI (0)) (by decide) ?_
      refine lv_istore_n (lv' := [(2, .int (nI (0))), (0, .ref bs), (1, .ref ob)]) hx hb dJ3_or_17 rfl hl (by decide) rfl (fun ls hl => ?_)
      refine lv_aload_n hx hb dJ3_or_18 rfl (lv_at hl 1 rfl) ?_
      refine va_get (D := D) (ci := 10) (v := .int (nI (0))) (C := RJ3) (T := TJ3) (N := 3) hx hb hts in_J3 hown hK hP 0 rfl rfl 1 (by decide) (hts _ q161) (fun _ h9 => h9) rfl dJ3_or_19 ?_
      refine lv_aload_n hx hb dJ3_or_22 rfl (lv_at hl 2 rfl) ?_
      refine va_get (D := D) (ci := 10) (v := .int (nI (0))) (C := RJ3) (T := TJ3) (N := 3) hx hb hts in_J3 hown hK (hZ.at hS) 0 rfl rfl 1 (by decide) (hts _ q161) (fun _ h9 => h9) rfl dJ3_or_23 ?_
      refine lv_icmp_ge (tgt := 45) hx hb dJ3_or_26 (by decide) (fun c_2 => ?_) (fun c_2 => ?_)
      · refine lv_iconst (v := nI (0)) hx hb dJ3_or_45 (by decide) ?_
        refine lv_istore_n (lv' := [(3, .int (nI (0))), (2, .int (nI (0))), (0, .ref bs), (1, .ref ob)]) hx hb dJ3_or_46 rfl hl (by decide) rfl (fun ls hl => ?_)
        refine lv_iload_n hx hb dJ3_or_47 rfl (lv_at hl 0 rfl) ?_
        refine lv_iload_n hx hb dJ3_or_48 rfl (lv_at hl 1 rfl) ?_
        refine lv_icmp_ge (tgt := 73) hx hb dJ3_or_49 (by decide) (fun c_3 => ?_) (fun c_3 => ?_)
        · refine lv_iload_n hx hb dJ3_or_73 rfl (lv_at hl 1 rfl) ?_
          refine lv_aload_n hx hb dJ3_or_74 rfl (lv_at hl 3 rfl) ?_
          refine va_get (D := D) (ci := 10) (v := .int (nI (0))) (C := RJ3) (T := TJ3) (N := 3) hx hb hts in_J3 hown hK (hZ.at hS) 0 rfl rfl 1 (by decide) (hts _ q161) (fun _ h9 => h9) rfl dJ3_or_75 ?_
          refine lv_icmp_ge (tgt := 100) hx hb dJ3_or_78 (by decide) (fun c_4 => ?_) (fun c_4 => ?_)
          · refine lv_aload_n hx hb dJ3_or_100 rfl (lv_at hl 2 rfl) ?_
            refine z_cVv (As := []) (rest := []) ⟨hx, hb, hml, hown, hts⟩ (mJ3_checkInvariants l D dA ad s.heap.size bs) (cwV 0 hts (lw_V q442 q444 qs6 q61 q445) rfl rfl rfl (by decide +kernel) ⟨Nat.le_of_ble_eq_true rfl, Nat.le_of_ble_eq_true rfl⟩) hC hS (fun _ h => hA _ (Nat.le_trans hS.1 h)) trivial (va_recv hK hP (ci := 10) (q0 := 0) rfl rfl) rfl rfl hl.1 (Nat.le_of_ble_eq_true rfl) dJ3_or_101 ⟨Nat.le_of_ble_eq_true rfl, Nat.le_of_ble_eq_true rfl⟩ (fun H locs hQ hF hS => ?_)
            have hP := va_P.ro hF hP
            exact z_vret hx hb hr hS (⟨trivial, by rw [hu, hu2]; exact hP⟩) (by omega) (by omega) dJ3_or_104
          · exact absurd c_4 (by decide)
        · exact absurd c_3 (by decide)
      · exact absurd c_2 (by decide)
    · have h9 : A bs := hD.2 0 _ rfl
      have h8 : ¬ A ob := hZ.2 0 _ rfl
      exact absurd h9 (by rw [Option.some.inj c_1]; exact h8)
  · rw [hu] at hZ
    refine lv_aload_n hx hb dJ3_or_0 rfl (lv_at hl 0 rfl) ?_
    refine lv_aload_n hx hb dJ3_or_1 rfl (lv_at hl 1 rfl) ?_
    refine lv_acmp_ne (tgt := 6) (rx := some bs) (ry := some ob) hx hb dJ3_or_2 (by decide) (fun c_6 => ?_) (fun c_6 => ?_)
    · refine lv_aload_n hx hb dJ3_or_6 rfl (lv_at hl 0 rfl) ?_
      refine va_get (D := D) (ci := 10) (v := .int (nI (0))) (C := RJ3) (T := TJ3) (N := 3) hx hb hts in_J3 hown hK hP 0 rfl rfl 1 (by decide) (hts _ q161) (fun _ h9 => h9) rfl dJ3_or_7 ?_
      refine lv_aload_n hx hb dJ3_or_10 rfl (lv_at hl 1 rfl) ?_
      refine va_get (D := D) (ci := 10) (v := .int (nI (1))) (C := RJ3) (T := TJ3) (N := 3) hx hb hts in_J3 hown hK (hZ.at hS) 0 rfl rfl 1 (by decide) (hts _ q161) (fun _ h9 => h9) rfl dJ3_or_11 ?_
      refine va_mmin hx hb (hml.trans hl.1.symm) hown (hts _ q425) (hts _ q410) (hts _ q70) (hts _ q411) (Nat.le_of_ble_eq_true rfl) (Nat.le_of_ble_eq_true rfl) (by first | exact Nat.le_of_ble_eq_true rfl | (show _ ≤ _; simp only [headSpec]; omega)) (by first | exact Nat.le_of_ble_eq_true rfl | (show _ ≤ _; simp only [headSpec]; omega)) dJ3_or_14 ?_
      refine lv_tope (y := nI (0)) (by decide) ?_
      refine lv_istore_n (lv' := [(2, .int (nI (0))), (0, .ref bs), (1, .ref ob)]) hx hb dJ3_or_17 rfl hl (by decide) rfl (fun ls hl => ?_)
      refine lv_aload_n hx hb dJ3_or_18 rfl (lv_at hl 1 rfl) ?_
      refine va_get (D := D) (ci := 10) (v := .int (nI (0))) (C := RJ3) (T := TJ3) (N := 3) hx hb hts in_J3 hown hK hP 0 rfl rfl 1 (by decide) (hts _ q161) (fun _ h9 => h9) rfl dJ3_or_19 ?_
      refine lv_aload_n hx hb dJ3_or_22 rfl (lv_at hl 2 rfl) ?_
      refine va_get (D := D) (ci := 10) (v := .int (nI (1))) (C := RJ3) (T := TJ3) (N := 3) hx hb hts in_J3 hown hK (hZ.at hS) 0 rfl rfl 1 (by decide) (hts _ q161) (fun _ h9 => h9) rfl dJ3_or_23 ?_
      refine lv_icmp_ge (tgt := 45) hx hb dJ3_or_26 (by decide) (fun c_7 => ?_) (fun c_7 => ?_)
      · exact absurd c_7 (by decide)
      · refine lv_aload_n hx hb dJ3_or_29 rfl (lv_at hl 1 rfl) ?_
        refine lv_aload_n hx hb dJ3_or_30 rfl (lv_at hl 2 rfl) ?_
        refine va_get (D := D) (ci := 10) (v := .int (nI (1))) (C := RJ3) (T := TJ3) (N := 3) hx hb hts in_J3 hown hK (hZ.at hS) 0 rfl rfl 1 (by decide) (hts _ q161) (fun _ h9 => h9) rfl dJ3_or_31 ?_
        refine z_cVv (As := [.int (nI (1))]) (rest := []) ⟨hx, hb, hml, hown, hts⟩ (mJ3_ensureCapacity l D dA ad s.heap.size bs bw stk 0 (lwd 0) 1 (by omega)) (cwV 1 hts (lw_V q426 q428 qs5 q61 q429) rfl rfl rfl (by decide +kernel) ⟨Nat.le_of_ble_eq_true rfl, Nat.le_of_ble_eq_true rfl⟩) hC hS (fun _ h => hA _ (Nat.le_trans hS.1 h)) (hP.sub (ws' := [(bs, .inr (10, [.ref bw, .int (nI (0)), .int stk])), (bw, .inl (dA 1, 2, .inr (.inl (lwd 0))))]) [0, 1] rfl) (va_recv hK hP (ci := 10) (q0 := 0) rfl rfl) rfl rfl hl.1 (Nat.le_of_ble_eq_true rfl) dJ3_or_34 ⟨Nat.le_of_ble_eq_true rfl, Nat.le_of_ble_eq_true rfl⟩ (fun H locs hQ hF hS => ?_)
        have hP := va_P.ro hF hP
        refine lv_aload_n hx hb dJ3_or_37 rfl (lv_at hl 1 rfl) ?_
        refine lv_aload_n hx hb dJ3_or_38 rfl (lv_at hl 2 rfl) ?_
        refine va_get (D := D) (ci := 10) (v := .int (nI (1))) (C := RJ3) (T := TJ3) (N := 3) hx hb hts in_J3 hown hK (hZ.at hS) 0 rfl rfl 1 (by decide) (hts _ q161) (fun _ h9 => h9) rfl dJ3_or_39 ?_
        refine va_put (D := D) (ci := 10) (v := .int (nI (1))) (ty := .int) (C := RJ3) (T := TJ3) (N := 3) hx hb hts in_J3 tyJ3 tyJ3_ok nmJ3 hown hK hP hD hS 0 rfl rfl 1 (by decide) (hts _ q161) (fun _ h9 => h9) rfl (by decide +kernel) rfl rfl (Nat.le_of_ble_eq_true rfl) dJ3_or_42 (fun H locs hP hD hS => ?_)
        have hP : va_P D vwCl [(bs, .inr (10, [.ref bw, .int (nI (1)), .int stk])), (bw, .inl (dA 1, 2, .inr (.inl (lwd 0))))] H := hP
        have hD : va_D A [(bs, .inr (10, [.ref bw, .int (nI (1)), .int stk])), (bw, .inl (dA 1, 2, .inr (.inl (lwd 0))))] := hD
        refine lv_iconst (v := nI (0)) hx hb dJ3_or_45 (by decide) ?_
        refine lv_istore_n (lv' := [(3, .int (nI (0))), (2, .int (nI (0))), (0, .ref bs), (1, .ref ob)]) hx hb dJ3_or_46 rfl hl (by decide) rfl (fun ls hl => ?_)
        refine lv_iload_n hx hb dJ3_or_47 rfl (lv_at hl 0 rfl) ?_
        refine lv_iload_n hx hb dJ3_or_48 rfl (lv_at hl 1 rfl) ?_
        refine lv_icmp_ge (tgt := 73) hx hb dJ3_or_49 (by decide) (fun c_9 => ?_) (fun c_9 => ?_)
        · refine lv_iload_n hx hb dJ3_or_73 rfl (lv_at hl 1 rfl) ?_
          refine lv_aload_n hx hb dJ3_or_74 rfl (lv_at hl 3 rfl) ?_
          refine va_get (D := D) (ci := 10) (v := .int (nI (1))) (C := RJ3) (T := TJ3) (N := 3) hx hb hts in_J3 hown hK (hZ.at hS) 0 rfl rfl 1 (by decide) (hts _ q161) (fun _ h9 => h9) rfl dJ3_or_75 ?_
          refine lv_icmp_ge (tgt := 100) hx hb dJ3_or_78 (by decide) (fun c_10 => ?_) (fun c_10 => ?_)
          · exact absurd c_10 (by decide)
          · refine lv_aload_n hx hb dJ3_or_81 rfl (lv_at hl 3 rfl) ?_
            refine va_get (D := D) (ci := 10) (v := .ref ow) (C := RJ3) (T := TJ3) (N := 3) hx hb hts in_J3 hown hK (hZ.at hS) 0 rfl rfl 0 (by decide) (hts _ q160) (fun _ h9 => h9) rfl dJ3_or_82 ?_
            refine lv_iload_n hx hb dJ3_or_85 rfl (lv_at hl 1 rfl) ?_
            refine lv_aload_n hx hb dJ3_or_86 rfl (lv_at hl 2 rfl) ?_
            refine va_get (D := D) (ci := 10) (v := .ref bw) (C := RJ3) (T := TJ3) (N := 3) hx hb hts in_J3 hown hK hP 0 rfl rfl 0 (by decide) (hts _ q160) (fun _ h9 => h9) rfl dJ3_or_87 ?_
            refine lv_iload_n hx hb dJ3_or_90 rfl (lv_at hl 1 rfl) ?_
            refine lv_aload_n hx hb dJ3_or_91 rfl (lv_at hl 2 rfl) ?_
            refine va_get (D := D) (ci := 10) (v := .int (nI (1))) (C := RJ3) (T := TJ3) (N := 3) hx hb hts in_J3 hown hK hP 0 rfl rfl 1 (by decide) (hts _ q161) (fun _ h9 => h9) rfl dJ3_or_92 ?_
            refine lv_iload_n hx hb dJ3_or_95 rfl (lv_at hl 1 rfl) ?_
            refine lv_isub hx hb dJ3_or_96 ?_
            refine lv_tope (y := nI (1)) (by decide) ?_
            refine z_copyl (q1 := 1) (q0 := 1) hx hb (hml.trans hl.1.symm) hown (hts _ q441) (hts _ q414) (hts _ q413) (hts _ q72) hC hP hD hS (hZ.at hS) rfl rfl (by omega) (by omega) (by omega) (Nat.le_of_ble_eq_true rfl) (Nat.le_of_ble_eq_true rfl) dJ3_or_97 (fun H locs hP hD hS => ?_)
            rw [lwd_cpy1 hu3] at hP hD
            have hP : va_P D vwCl [(bs, .inr (10, [.ref bw, .int (nI (1)), .int stk])), (bw, .inl (dA 1, 2, .inr (.inl (lwd Wb))))] H := hP
            have hD : va_D A [(bs, .inr (10, [.ref bw, .int (nI (1)), .int stk])), (bw, .inl (dA 1, 2, .inr (.inl (lwd Wb))))] := hD
            refine lv_aload_n hx hb dJ3_or_100 rfl (lv_at hl 2 rfl) ?_
            refine z_cVv (As := []) (rest := []) ⟨hx, hb, hml, hown, hts⟩ (mJ3_checkInvariants l D dA ad H.size bs) (cwV 0 hts (lw_V q442 q444 qs6 q61 q445) rfl rfl rfl (by decide +kernel) ⟨Nat.le_of_ble_eq_true rfl, Nat.le_of_ble_eq_true rfl⟩) hC hS (fun _ h => hA _ (Nat.le_trans hS.1 h)) trivial (va_recv hK hP (ci := 10) (q0 := 0) rfl rfl) rfl rfl hl.1 (Nat.le_of_ble_eq_true rfl) dJ3_or_101 ⟨Nat.le_of_ble_eq_true rfl, Nat.le_of_ble_eq_true rfl⟩ (fun H locs hQ hF hS => ?_)
            have hP := va_P.ro hF hP
            exact z_vret hx hb hr hS (⟨trivial, by rw [hu]; exact hP⟩) (by omega) (by omega) dJ3_or_104
        · exact absurd c_9 (by decide)
    · have h9 : A bs := hD.2 0 _ rfl
      have h8 : ¬ A ob := hZ.2 0 _ rfl
      exact absurd h9 (by rw [Option.some.inj c_6]; exact h8)
  · rw [hu] at hZ
    refine lv_aload_n hx hb dJ3_or_0 rfl (lv_at hl 0 rfl) ?_
    refine lv_aload_n hx hb dJ3_or_1 rfl (lv_at hl 1 rfl) ?_
    refine lv_acmp_ne (tgt := 6) (rx := some bs) (ry := some ob) hx hb dJ3_or_2 (by decide) (fun c_12 => ?_) (fun c_12 => ?_)
    · refine lv_aload_n hx hb dJ3_or_6 rfl (lv_at hl 0 rfl) ?_
      refine va_get (D := D) (ci := 10) (v := .int (nI (0))) (C := RJ3) (T := TJ3) (N := 3) hx hb hts in_J3 hown hK hP 0 rfl rfl 1 (by decide) (hts _ q161) (fun _ h9 => h9) rfl dJ3_or_7 ?_
      refine lv_aload_n hx hb dJ3_or_10 rfl (lv_at hl 1 rfl) ?_
      refine va_get (D := D) (ci := 10) (v := .int (nI (2))) (C := RJ3) (T := TJ3) (N := 3) hx hb hts in_J3 hown hK (hZ.at hS) 0 rfl rfl 1 (by decide) (hts _ q161) (fun _ h9 => h9) rfl dJ3_or_11 ?_
      refine va_mmin hx hb (hml.trans hl.1.symm) hown (hts _ q425) (hts _ q410) (hts _ q70) (hts _ q411) (Nat.le_of_ble_eq_true rfl) (Nat.le_of_ble_eq_true rfl) (by first | exact Nat.le_of_ble_eq_true rfl | (show _ ≤ _; simp only [headSpec]; omega)) (by first | exact Nat.le_of_ble_eq_true rfl | (show _ ≤ _; simp only [headSpec]; omega)) dJ3_or_14 ?_
      refine lv_tope (y := nI (0)) (by decide) ?_
      refine lv_istore_n (lv' := [(2, .int (nI (0))), (0, .ref bs), (1, .ref ob)]) hx hb dJ3_or_17 rfl hl (by decide) rfl (fun ls hl => ?_)
      refine lv_aload_n hx hb dJ3_or_18 rfl (lv_at hl 1 rfl) ?_
      refine va_get (D := D) (ci := 10) (v := .int (nI (0))) (C := RJ3) (T := TJ3) (N := 3) hx hb hts in_J3 hown hK hP 0 rfl rfl 1 (by decide) (hts _ q161) (fun _ h9 => h9) rfl dJ3_or_19 ?_
      refine lv_aload_n hx hb dJ3_or_22 rfl (lv_at hl 2 rfl) ?_
      refine va_get (D := D) (ci := 10) (v := .int (nI (2))) (C := RJ3) (T := TJ3) (N := 3) hx hb hts in_J3 hown hK (hZ.at hS) 0 rfl rfl 1 (by decide) (hts _ q161) (fun _ h9 => h9) rfl dJ3_or_23 ?_
      refine lv_icmp_ge (tgt := 45) hx hb dJ3_or_26 (by decide) (fun c_13 => ?_) (fun c_13 => ?_)
      · exact absurd c_13 (by decide)
      · refine lv_aload_n hx hb dJ3_or_29 rfl (lv_at hl 1 rfl) ?_
        refine lv_aload_n hx hb dJ3_or_30 rfl (lv_at hl 2 rfl) ?_
        refine va_get (D := D) (ci := 10) (v := .int (nI (2))) (C := RJ3) (T := TJ3) (N := 3) hx hb hts in_J3 hown hK (hZ.at hS) 0 rfl rfl 1 (by decide) (hts _ q161) (fun _ h9 => h9) rfl dJ3_or_31 ?_
        refine z_cVv (As := [.int (nI (2))]) (rest := []) ⟨hx, hb, hml, hown, hts⟩ (mJ3_ensureCapacity l D dA ad s.heap.size bs bw stk 0 (lwd 0) 2 (by omega)) (cwV 1 hts (lw_V q426 q428 qs5 q61 q429) rfl rfl rfl (by decide +kernel) ⟨Nat.le_of_ble_eq_true rfl, Nat.le_of_ble_eq_true rfl⟩) hC hS (fun _ h => hA _ (Nat.le_trans hS.1 h)) (hP.sub (ws' := [(bs, .inr (10, [.ref bw, .int (nI (0)), .int stk])), (bw, .inl (dA 1, 2, .inr (.inl (lwd 0))))]) [0, 1] rfl) (va_recv hK hP (ci := 10) (q0 := 0) rfl rfl) rfl rfl hl.1 (Nat.le_of_ble_eq_true rfl) dJ3_or_34 ⟨Nat.le_of_ble_eq_true rfl, Nat.le_of_ble_eq_true rfl⟩ (fun H locs hQ hF hS => ?_)
        have hP := va_P.ro hF hP
        refine lv_aload_n hx hb dJ3_or_37 rfl (lv_at hl 1 rfl) ?_
        refine lv_aload_n hx hb dJ3_or_38 rfl (lv_at hl 2 rfl) ?_
        refine va_get (D := D) (ci := 10) (v := .int (nI (2))) (C := RJ3) (T := TJ3) (N := 3) hx hb hts in_J3 hown hK (hZ.at hS) 0 rfl rfl 1 (by decide) (hts _ q161) (fun _ h9 => h9) rfl dJ3_or_39 ?_
        refine va_put (D := D) (ci := 10) (v := .int (nI (2))) (ty := .int) (C := RJ3) (T := TJ3) (N := 3) hx hb hts in_J3 tyJ3 tyJ3_ok nmJ3 hown hK hP hD hS 0 rfl rfl 1 (by decide) (hts _ q161) (fun _ h9 => h9) rfl (by decide +kernel) rfl rfl (Nat.le_of_ble_eq_true rfl) dJ3_or_42 (fun H locs hP hD hS => ?_)
        have hP : va_P D vwCl [(bs, .inr (10, [.ref bw, .int (nI (2)), .int stk])), (bw, .inl (dA 1, 2, .inr (.inl (lwd 0))))] H := hP
        have hD : va_D A [(bs, .inr (10, [.ref bw, .int (nI (2)), .int stk])), (bw, .inl (dA 1, 2, .inr (.inl (lwd 0))))] := hD
        refine lv_iconst (v := nI (0)) hx hb dJ3_or_45 (by decide) ?_
        refine lv_istore_n (lv' := [(3, .int (nI (0))), (2, .int (nI (0))), (0, .ref bs), (1, .ref ob)]) hx hb dJ3_or_46 rfl hl (by decide) rfl (fun ls hl => ?_)
        refine lv_iload_n hx hb dJ3_or_47 rfl (lv_at hl 0 rfl) ?_
        refine lv_iload_n hx hb dJ3_or_48 rfl (lv_at hl 1 rfl) ?_
        refine lv_icmp_ge (tgt := 73) hx hb dJ3_or_49 (by decide) (fun c_15 => ?_) (fun c_15 => ?_)
        · refine lv_iload_n hx hb dJ3_or_73 rfl (lv_at hl 1 rfl) ?_
          refine lv_aload_n hx hb dJ3_or_74 rfl (lv_at hl 3 rfl) ?_
          refine va_get (D := D) (ci := 10) (v := .int (nI (2))) (C := RJ3) (T := TJ3) (N := 3) hx hb hts in_J3 hown hK (hZ.at hS) 0 rfl rfl 1 (by decide) (hts _ q161) (fun _ h9 => h9) rfl dJ3_or_75 ?_
          refine lv_icmp_ge (tgt := 100) hx hb dJ3_or_78 (by decide) (fun c_16 => ?_) (fun c_16 => ?_)
          · exact absurd c_16 (by decide)
          · refine lv_aload_n hx hb dJ3_or_81 rfl (lv_at hl 3 rfl) ?_
            refine va_get (D := D) (ci := 10) (v := .ref ow) (C := RJ3) (T := TJ3) (N := 3) hx hb hts in_J3 hown hK (hZ.at hS) 0 rfl rfl 0 (by decide) (hts _ q160) (fun _ h9 => h9) rfl dJ3_or_82 ?_
            refine lv_iload_n hx hb dJ3_or_85 rfl (lv_at hl 1 rfl) ?_
            refine lv_aload_n hx hb dJ3_or_86 rfl (lv_at hl 2 rfl) ?_
            refine va_get (D := D) (ci := 10) (v := .ref bw) (C := RJ3) (T := TJ3) (N := 3) hx hb hts in_J3 hown hK hP 0 rfl rfl 0 (by decide) (hts _ q160) (fun _ h9 => h9) rfl dJ3_or_87 ?_
            refine lv_iload_n hx hb dJ3_or_90 rfl (lv_at hl 1 rfl) ?_
            refine lv_aload_n hx hb dJ3_or_91 rfl (lv_at hl 2 rfl) ?_
            refine va_get (D := D) (ci := 10) (v := .int (nI (2))) (C := RJ3) (T := TJ3) (N := 3) hx hb hts in_J3 hown hK hP 0 rfl rfl 1 (by decide) (hts _ q161) (fun _ h9 => h9) rfl dJ3_or_92 ?_
            refine lv_iload_n hx hb dJ3_or_95 rfl (lv_at hl 1 rfl) ?_
            refine lv_isub hx hb dJ3_or_96 ?_
            refine lv_tope (y := nI (2)) (by decide) ?_
            refine z_copyl (q1 := 1) (q0 := 1) hx hb (hml.trans hl.1.symm) hown (hts _ q441) (hts _ q414) (hts _ q413) (hts _ q72) hC hP hD hS (hZ.at hS) rfl rfl (by omega) (by omega) (by omega) (Nat.le_of_ble_eq_true rfl) (Nat.le_of_ble_eq_true rfl) dJ3_or_97 (fun H locs hP hD hS => ?_)
            rw [lwd_cpy2] at hP hD
            have hP : va_P D vwCl [(bs, .inr (10, [.ref bw, .int (nI (2)), .int stk])), (bw, .inl (dA 1, 2, .inr (.inl (lwd Wb))))] H := hP
            have hD : va_D A [(bs, .inr (10, [.ref bw, .int (nI (2)), .int stk])), (bw, .inl (dA 1, 2, .inr (.inl (lwd Wb))))] := hD
            refine lv_aload_n hx hb dJ3_or_100 rfl (lv_at hl 2 rfl) ?_
            refine z_cVv (As := []) (rest := []) ⟨hx, hb, hml, hown, hts⟩ (mJ3_checkInvariants l D dA ad H.size bs) (cwV 0 hts (lw_V q442 q444 qs6 q61 q445) rfl rfl rfl (by decide +kernel) ⟨Nat.le_of_ble_eq_true rfl, Nat.le_of_ble_eq_true rfl⟩) hC hS (fun _ h => hA _ (Nat.le_trans hS.1 h)) trivial (va_recv hK hP (ci := 10) (q0 := 0) rfl rfl) rfl rfl hl.1 (Nat.le_of_ble_eq_true rfl) dJ3_or_101 ⟨Nat.le_of_ble_eq_true rfl, Nat.le_of_ble_eq_true rfl⟩ (fun H locs hQ hF hS => ?_)
            have hP := va_P.ro hF hP
            exact z_vret hx hb hr hS (⟨trivial, by rw [hu]; exact hP⟩) (by omega) (by omega) dJ3_or_104
        · exact absurd c_15 (by decide)
    · have h9 : A bs := hD.2 0 _ rfl
      have h8 : ¬ A ob := hZ.2 0 _ rfl
      exact absurd h9 (by rw [Option.some.inj c_12]; exact h8)

set_option maxHeartbeats 4000000 in
set_option maxRecDepth 100000 in
theorem mJ3_recalculateWordsInUse (l : Launch) (D : va_G) (dA : Nat → ClassId) (ad : Nat → Nat) (A : Nat → Prop) (sz : Nat) (bs : Nat) (bw : Nat) (stk : Int32) (u : Nat) (V : Nat) (hA : ∀ q, sz ≤ q → A q) (hV : V < 2 ^ 101) (h1 : uOf V ≤ u) (h2 : u ≤ 2) (hD : va_D A [(bs, .inr (10, [.ref bw, .int (nI (u)), .int stk])), (bw, .inl (dA 1, 2, .inr (.inl (lwd V))))]) : Met l yJ3_recalculateWordsInUse (ws_ yJ3_recalculateWordsInUse cJ3_recalculateWordsInUse 2 none) ({ frames := 0, cells := 0, slots := 0, locals := 0 }) (va_Pc [.ref bs] (zP D dA ad A sz (fun H => va_P D vwCl [(bs, .inr (10, [.ref bw, .int (nI (u)), .int stk])), (bw, .inl (dA 1, 2, .inr (.inl (lwd V))))] H))) (zQv (fun H => True ∧ va_P D vwCl [(bs, .inr (10, [.ref bw, .int (nI (uOf V)), .int stk])), (bw, .inl (dA 1, 2, .inr (.inl (lwd V))))] H) A) (0) (0) A := by
  refine Met.ofW (cc := cJ3_recalculateWordsInUse) (maxL := 2) (ret := none) (by decide) rfl ?_
  intro p e s m args below meth c s₁ B hml hv
  obtain ⟨rfl, hsz, hC, hP⟩ := hv
  have hx := B.exec
  have hb := B.bytes
  have hr := B.returns
  have hts := atoms_spec (ws := ws_ yJ3_recalculateWordsInUse cJ3_recalculateWordsInUse 2 none) B.pre
  have hts : ∀ w ∈ lw_all, w.before _ s = true := fun w h => hts w (List.mem_cons_of_mem _ h)
  have hown : s.vm.findClass RJ3 = some m.cls := findClass_of_methodNamed B.named
  have hlocks := B.notSynchronized
  subst hsz
  have hK := hC.K
  have hS : va_S A s.heap s.heap [] := va_S.rf
  have hP : va_P D vwCl [(bs, .inr (10, [.ref bw, .int (nI (u)), .int stk])), (bw, .inl (dA 1, 2, .inr (.inl (lwd V))))] s.heap := hP
  have hu := uOf_c V
  have hm := Nat.mod_lt V (Nat.two_pow_pos 64)
  have hl := lv_entry ([.ref bs]) (n := 2) (Nat.le_of_ble_eq_true rfl)
  rw [lg_entry_eq]
  generalize (lg_sl ([.ref bs]) ++ List.replicate (2 - (lg_sl ([.ref bs])).length) Slot.unset).toArray = ls at hl ⊢
  have hl : lv_has ls 2 [(0, .ref bs)] := hl
  rcases (show u = 0 ∨ u = 1 ∨ u = 2 by omega) with rfl | rfl | rfl
  · refine lv_aload_n hx hb dJ3_recalculateWordsInUse_0 rfl (lv_at hl 0 rfl) ?_
    refine va_get (D := D) (ci := 10) (v := .int (nI (0))) (C := RJ3) (T := TJ3) (N := 3) hx hb hts in_J3 hown hK hP 0 rfl rfl 1 (by decide) (hts _ q161) (fun _ h9 => h9) rfl dJ3_recalculateWordsInUse_1 ?_
    refine lv_iconst (v := nI (1)) hx hb dJ3_recalculateWordsInUse_4 (by decide) ?_
    refine lv_isub hx hb dJ3_recalculateWordsInUse_5 ?_
    refine lv_tope (y := (-1)) (by decide) ?_
    refine lv_istore_n (lv' := [(1, .int (-1)), (0, .ref bs)]) hx hb dJ3_recalculateWordsInUse_6 rfl hl (by decide) rfl (fun ls hl => ?_)
    refine lv_iload_n hx hb dJ3_recalculateWordsInUse_7 rfl (lv_at hl 0 rfl) ?_
    refine lv_if_lt (tgt := 31) hx hb dJ3_recalculateWordsInUse_8 (by decide) (fun c_1 => ?_) (fun c_1 => ?_)
    · refine lv_aload_n hx hb dJ3_recalculateWordsInUse_31 rfl (lv_at hl 1 rfl) ?_
      refine lv_iload_n hx hb dJ3_recalculateWordsInUse_32 rfl (lv_at hl 0 rfl) ?_
      refine lv_iconst (v := nI (1)) hx hb dJ3_recalculateWordsInUse_33 (by decide) ?_
      refine lv_iadd hx hb dJ3_recalculateWordsInUse_34 ?_
      refine lv_tope (y := nI (0)) (by decide) ?_
      refine va_put (D := D) (ci := 10) (v := .int (nI (0))) (ty := .int) (C := RJ3) (T := TJ3) (N := 3) hx hb hts in_J3 tyJ3 tyJ3_ok nmJ3 hown hK hP hD hS 0 rfl rfl 1 (by decide) (hts _ q161) (fun _ h9 => h9) rfl (by decide +kernel) rfl rfl (Nat.le_of_ble_eq_true rfl) dJ3_recalculateWordsInUse_35 (fun H locs hP hD hS => ?_)
      have hP : va_P D vwCl [(bs, .inr (10, [.ref bw, .int (nI (0)), .int stk])), (bw, .inl (dA 1, 2, .inr (.inl (lwd V))))] H := hP
      have hD : va_D A [(bs, .inr (10, [.ref bw, .int (nI (0)), .int stk])), (bw, .inl (dA 1, 2, .inr (.inl (lwd V))))] := hD
      exact z_vret hx hb hr hS (⟨trivial, by rw [show uOf V = 0 by omega]; exact hP⟩) (by omega) (by omega) dJ3_recalculateWordsInUse_38
    · exact absurd c_1 (by decide)
  · refine lv_aload_n hx hb dJ3_recalculateWordsInUse_0 rfl (lv_at hl 0 rfl) ?_
    refine va_get (D := D) (ci := 10) (v := .int (nI (1))) (C := RJ3) (T := TJ3) (N := 3) hx hb hts in_J3 hown hK hP 0 rfl rfl 1 (by decide) (hts _ q161) (fun _ h9 => h9) rfl dJ3_recalculateWordsInUse_1 ?_
    refine lv_iconst (v := nI (1)) hx hb dJ3_recalculateWordsInUse_4 (by decide) ?_
    refine lv_isub hx hb dJ3_recalculateWordsInUse_5 ?_
    refine lv_tope (y := nI (0)) (by decide) ?_
    refine lv_istore_n (lv' := [(1, .int (nI (0))), (0, .ref bs)]) hx hb dJ3_recalculateWordsInUse_6 rfl hl (by decide) rfl (fun ls hl => ?_)
    refine lv_iload_n hx hb dJ3_recalculateWordsInUse_7 rfl (lv_at hl 0 rfl) ?_
    refine lv_if_lt (tgt := 31) hx hb dJ3_recalculateWordsInUse_8 (by decide) (fun c_2 => ?_) (fun c_2 => ?_)
    · exact absurd c_2 (by decide)
    · refine lv_aload_n hx hb dJ3_recalculateWordsInUse_11 rfl (lv_at hl 1 rfl) ?_
      refine va_get (D := D) (ci := 10) (v := .ref bw) (C := RJ3) (T := TJ3) (N := 3) hx hb hts in_J3 hown hK hP 0 rfl rfl 0 (by decide) (hts _ q160) (fun _ h9 => h9) rfl dJ3_recalculateWordsInUse_12 ?_
      refine lv_iload_n hx hb dJ3_recalculateWordsInUse_15 rfl (lv_at hl 0 rfl) ?_
      refine va_lald hx hb hK hP 1 1 rfl rfl (vp_in_nI (by omega) (by omega)) dJ3_recalculateWordsInUse_16 ?_
      refine lv_topel (y := (lwd V) 0) (by rw [nI_clamp (by omega)]) ?_
      refine lv_topel (y := lN (V % 2 ^ 64)) (rfl) ?_
      refine lv_lconst (v := lN (0)) hx hb dJ3_recalculateWordsInUse_17 (by decide) ?_
      refine W.lcmp hx hb dJ3_recalculateWordsInUse_18 ?_
      refine lv_if_eq (tgt := 25) hx hb dJ3_recalculateWordsInUse_19 (by decide) (fun c_3 => ?_) (fun c_3 => ?_)
      · have c_3 := (lg_cmp_eq _ _).1 c_3
        have c_3 := (lN_inj64 (by omega) (by decide)).1 c_3
        refine lv_iinc (v := (-1)) (lv' := [(1, .int (-1)), (0, .ref bs)]) hx hb dJ3_recalculateWordsInUse_25 hl (k := 0) rfl (by decide) (by decide) rfl (fun ls hl => ?_)
        refine lv_goto (tgt := 7) hx hb dJ3_recalculateWordsInUse_28 (by decide) ?_
        refine lv_iload_n hx hb dJ3_recalculateWordsInUse_7 rfl (lv_at hl 0 rfl) ?_
        refine lv_if_lt (tgt := 31) hx hb dJ3_recalculateWordsInUse_8 (by decide) (fun c_4 => ?_) (fun c_4 => ?_)
        · refine lv_aload_n hx hb dJ3_recalculateWordsInUse_31 rfl (lv_at hl 1 rfl) ?_
          refine lv_iload_n hx hb dJ3_recalculateWordsInUse_32 rfl (lv_at hl 0 rfl) ?_
          refine lv_iconst (v := nI (1)) hx hb dJ3_recalculateWordsInUse_33 (by decide) ?_
          refine lv_iadd hx hb dJ3_recalculateWordsInUse_34 ?_
          refine lv_tope (y := nI (0)) (by decide) ?_
          refine va_put (D := D) (ci := 10) (v := .int (nI (0))) (ty := .int) (C := RJ3) (T := TJ3) (N := 3) hx hb hts in_J3 tyJ3 tyJ3_ok nmJ3 hown hK hP hD hS 0 rfl rfl 1 (by decide) (hts _ q161) (fun _ h9 => h9) rfl (by decide +kernel) rfl rfl (Nat.le_of_ble_eq_true rfl) dJ3_recalculateWordsInUse_35 (fun H locs hP hD hS => ?_)
          have hP : va_P D vwCl [(bs, .inr (10, [.ref bw, .int (nI (0)), .int stk])), (bw, .inl (dA 1, 2, .inr (.inl (lwd V))))] H := hP
          have hD : va_D A [(bs, .inr (10, [.ref bw, .int (nI (0)), .int stk])), (bw, .inl (dA 1, 2, .inr (.inl (lwd V))))] := hD
          exact z_vret hx hb hr hS (⟨trivial, by rw [show uOf V = 0 by omega]; exact hP⟩) (by omega) (by omega) dJ3_recalculateWordsInUse_38
        · exact absurd c_4 (by decide)
      · have c_3 := mt (lg_cmp_eq _ _).2 c_3
        have c_3 := mt (lN_inj64 (by omega) (by decide)).2 c_3
        refine lv_goto (tgt := 31) hx hb dJ3_recalculateWordsInUse_22 (by decide) ?_
        refine lv_aload_n hx hb dJ3_recalculateWordsInUse_31 rfl (lv_at hl 1 rfl) ?_
        refine lv_iload_n hx hb dJ3_recalculateWordsInUse_32 rfl (lv_at hl 0 rfl) ?_
        refine lv_iconst (v := nI (1)) hx hb dJ3_recalculateWordsInUse_33 (by decide) ?_
        refine lv_iadd hx hb dJ3_recalculateWordsInUse_34 ?_
        refine lv_tope (y := nI (1)) (by decide) ?_
        refine va_put (D := D) (ci := 10) (v := .int (nI (1))) (ty := .int) (C := RJ3) (T := TJ3) (N := 3) hx hb hts in_J3 tyJ3 tyJ3_ok nmJ3 hown hK hP hD hS 0 rfl rfl 1 (by decide) (hts _ q161) (fun _ h9 => h9) rfl (by decide +kernel) rfl rfl (Nat.le_of_ble_eq_true rfl) dJ3_recalculateWordsInUse_35 (fun H locs hP hD hS => ?_)
        have hP : va_P D vwCl [(bs, .inr (10, [.ref bw, .int (nI (1)), .int stk])), (bw, .inl (dA 1, 2, .inr (.inl (lwd V))))] H := hP
        have hD : va_D A [(bs, .inr (10, [.ref bw, .int (nI (1)), .int stk])), (bw, .inl (dA 1, 2, .inr (.inl (lwd V))))] := hD
        exact z_vret hx hb hr hS (⟨trivial, by rw [show uOf V = 1 by omega]; exact hP⟩) (by omega) (by omega) dJ3_recalculateWordsInUse_38
  · refine lv_aload_n hx hb dJ3_recalculateWordsInUse_0 rfl (lv_at hl 0 rfl) ?_
    refine va_get (D := D) (ci := 10) (v := .int (nI (2))) (C := RJ3) (T := TJ3) (N := 3) hx hb hts in_J3 hown hK hP 0 rfl rfl 1 (by decide) (hts _ q161) (fun _ h9 => h9) rfl dJ3_recalculateWordsInUse_1 ?_
    refine lv_iconst (v := nI (1)) hx hb dJ3_recalculateWordsInUse_4 (by decide) ?_
    refine lv_isub hx hb dJ3_recalculateWordsInUse_5 ?_
    refine lv_tope (y := nI (1)) (by decide) ?_
    refine lv_istore_n (lv' := [(1, .int (nI (1))), (0, .ref bs)]) hx hb dJ3_recalculateWordsInUse_6 rfl hl (by decide) rfl (fun ls hl => ?_)
    refine lv_iload_n hx hb dJ3_recalculateWordsInUse_7 rfl (lv_at hl 0 rfl) ?_
    refine lv_if_lt (tgt := 31) hx hb dJ3_recalculateWordsInUse_8 (by decide) (fun c_5 => ?_) (fun c_5 => ?_)
    · exact absurd c_5 (by decide)
    · refine lv_aload_n hx hb dJ3_recalculateWordsInUse_11 rfl (lv_at hl 1 rfl) ?_
      refine va_get (D := D) (ci := 10) (v := .ref bw) (C := RJ3) (T := TJ3) (N := 3) hx hb hts in_J3 hown hK hP 0 rfl rfl 0 (by decide) (hts _ q160) (fun _ h9 => h9) rfl dJ3_recalculateWordsInUse_12 ?_
      refine lv_iload_n hx hb dJ3_recalculateWordsInUse_15 rfl (lv_at hl 0 rfl) ?_
      refine va_lald hx hb hK hP 1 1 rfl rfl (vp_in_nI (by omega) (by omega)) dJ3_recalculateWordsInUse_16 ?_
      refine lv_topel (y := (lwd V) 1) (by rw [nI_clamp (by omega)]) ?_
      refine lv_topel (y := lN (V / 2 ^ 64)) (rfl) ?_
      refine lv_lconst (v := lN (0)) hx hb dJ3_recalculateWordsInUse_17 (by decide) ?_
      refine W.lcmp hx hb dJ3_recalculateWordsInUse_18 ?_
      refine lv_if_eq (tgt := 25) hx hb dJ3_recalculateWordsInUse_19 (by decide) (fun c_6 => ?_) (fun c_6 => ?_)
      · have c_6 := (lg_cmp_eq _ _).1 c_6
        have c_6 := (lN_inj64 (by omega) (by decide)).1 c_6
        refine lv_iinc (v := nI (0)) (lv' := [(1, .int (nI (0))), (0, .ref bs)]) hx hb dJ3_recalculateWordsInUse_25 hl (k := 0) rfl (by decide) (by decide) rfl (fun ls hl => ?_)
        refine lv_goto (tgt := 7) hx hb dJ3_recalculateWordsInUse_28 (by decide) ?_
        refine lv_iload_n hx hb dJ3_recalculateWordsInUse_7 rfl (lv_at hl 0 rfl) ?_
        refine lv_if_lt (tgt := 31) hx hb dJ3_recalculateWordsInUse_8 (by decide) (fun c_7 => ?_) (fun c_7 => ?_)
        · exact absurd c_7 (by decide)
        · refine lv_aload_n hx hb dJ3_recalculateWordsInUse_11 rfl (lv_at hl 1 rfl) ?_
          refine va_get (D := D) (ci := 10) (v := .ref bw) (C := RJ3) (T := TJ3) (N := 3) hx hb hts in_J3 hown hK hP 0 rfl rfl 0 (by decide) (hts _ q160) (fun _ h9 => h9) rfl dJ3_recalculateWordsInUse_12 ?_
          refine lv_iload_n hx hb dJ3_recalculateWordsInUse_15 rfl (lv_at hl 0 rfl) ?_
          refine va_lald hx hb hK hP 1 1 rfl rfl (vp_in_nI (by omega) (by omega)) dJ3_recalculateWordsInUse_16 ?_
          refine lv_topel (y := (lwd V) 0) (by rw [nI_clamp (by omega)]) ?_
          refine lv_topel (y := lN (V % 2 ^ 64)) (rfl) ?_
          refine lv_lconst (v := lN (0)) hx hb dJ3_recalculateWordsInUse_17 (by decide) ?_
          refine W.lcmp hx hb dJ3_recalculateWordsInUse_18 ?_
          refine lv_if_eq (tgt := 25) hx hb dJ3_recalculateWordsInUse_19 (by decide) (fun c_8 => ?_) (fun c_8 => ?_)
          · have c_8 := (lg_cmp_eq _ _).1 c_8
            have c_8 := (lN_inj64 (by omega) (by decide)).1 c_8
            refine lv_iinc (v := (-1)) (lv' := [(1, .int (-1)), (0, .ref bs)]) hx hb dJ3_recalculateWordsInUse_25 hl (k := 0) rfl (by decide) (by decide) rfl (fun ls hl => ?_)
            refine lv_goto (tgt := 7) hx hb dJ3_recalculateWordsInUse_28 (by decide) ?_
            refine lv_iload_n hx hb dJ3_recalculateWordsInUse_7 rfl (lv_at hl 0 rfl) ?_
            refine lv_if_lt (tgt := 31) hx hb dJ3_recalculateWordsInUse_8 (by decide) (fun c_9 => ?_) (fun c_9 => ?_)
            · refine lv_aload_n hx hb dJ3_recalculateWordsInUse_31 rfl (lv_at hl 1 rfl) ?_
              refine lv_iload_n hx hb dJ3_recalculateWordsInUse_32 rfl (lv_at hl 0 rfl) ?_
              refine lv_iconst (v := nI (1)) hx hb dJ3_recalculateWordsInUse_33 (by decide) ?_
              refine lv_iadd hx hb dJ3_recalculateWordsInUse_34 ?_
              refine lv_tope (y := nI (0)) (by decide) ?_
              refine va_put (D := D) (ci := 10) (v := .int (nI (0))) (ty := .int) (C := RJ3) (T := TJ3) (N := 3) hx hb hts in_J3 tyJ3 tyJ3_ok nmJ3 hown hK hP hD hS 0 rfl rfl 1 (by decide) (hts _ q161) (fun _ h9 => h9) rfl (by decide +kernel) rfl rfl (Nat.le_of_ble_eq_true rfl) dJ3_recalculateWordsInUse_35 (fun H locs hP hD hS => ?_)
              have hP : va_P D vwCl [(bs, .inr (10, [.ref bw, .int (nI (0)), .int stk])), (bw, .inl (dA 1, 2, .inr (.inl (lwd V))))] H := hP
              have hD : va_D A [(bs, .inr (10, [.ref bw, .int (nI (0)), .int stk])), (bw, .inl (dA 1, 2, .inr (.inl (lwd V))))] := hD
              exact z_vret hx hb hr hS (⟨trivial, by rw [show uOf V = 0 by omega]; exact hP⟩) (by omega) (by omega) dJ3_recalculateWordsInUse_38
            · exact absurd c_9 (by decide)
          · have c_8 := mt (lg_cmp_eq _ _).2 c_8
            have c_8 := mt (lN_inj64 (by omega) (by decide)).2 c_8
            refine lv_goto (tgt := 31) hx hb dJ3_recalculateWordsInUse_22 (by decide) ?_
            refine lv_aload_n hx hb dJ3_recalculateWordsInUse_31 rfl (lv_at hl 1 rfl) ?_
            refine lv_iload_n hx hb dJ3_recalculateWordsInUse_32 rfl (lv_at hl 0 rfl) ?_
            refine lv_iconst (v := nI (1)) hx hb dJ3_recalculateWordsInUse_33 (by decide) ?_
            refine lv_iadd hx hb dJ3_recalculateWordsInUse_34 ?_
            refine lv_tope (y := nI (1)) (by decide) ?_
            refine va_put (D := D) (ci := 10) (v := .int (nI (1))) (ty := .int) (C := RJ3) (T := TJ3) (N := 3) hx hb hts in_J3 tyJ3 tyJ3_ok nmJ3 hown hK hP hD hS 0 rfl rfl 1 (by decide) (hts _ q161) (fun _ h9 => h9) rfl (by decide +kernel) rfl rfl (Nat.le_of_ble_eq_true rfl) dJ3_recalculateWordsInUse_35 (fun H locs hP hD hS => ?_)
            have hP : va_P D vwCl [(bs, .inr (10, [.ref bw, .int (nI (1)), .int stk])), (bw, .inl (dA 1, 2, .inr (.inl (lwd V))))] H := hP
            have hD : va_D A [(bs, .inr (10, [.ref bw, .int (nI (1)), .int stk])), (bw, .inl (dA 1, 2, .inr (.inl (lwd V))))] := hD
            exact z_vret hx hb hr hS (⟨trivial, by rw [show uOf V = 1 by omega]; exact hP⟩) (by omega) (by omega) dJ3_recalculateWordsInUse_38
      · have c_6 := mt (lg_cmp_eq _ _).2 c_6
        have c_6 := mt (lN_inj64 (by omega) (by decide)).2 c_6
        refine lv_goto (tgt := 31) hx hb dJ3_recalculateWordsInUse_22 (by decide) ?_
        refine lv_aload_n hx hb dJ3_recalculateWordsInUse_31 rfl (lv_at hl 1 rfl) ?_
        refine lv_iload_n hx hb dJ3_recalculateWordsInUse_32 rfl (lv_at hl 0 rfl) ?_
        refine lv_iconst (v := nI (1)) hx hb dJ3_recalculateWordsInUse_33 (by decide) ?_
        refine lv_iadd hx hb dJ3_recalculateWordsInUse_34 ?_
        refine lv_tope (y := nI (2)) (by decide) ?_
        refine va_put (D := D) (ci := 10) (v := .int (nI (2))) (ty := .int) (C := RJ3) (T := TJ3) (N := 3) hx hb hts in_J3 tyJ3 tyJ3_ok nmJ3 hown hK hP hD hS 0 rfl rfl 1 (by decide) (hts _ q161) (fun _ h9 => h9) rfl (by decide +kernel) rfl rfl (Nat.le_of_ble_eq_true rfl) dJ3_recalculateWordsInUse_35 (fun H locs hP hD hS => ?_)
        have hP : va_P D vwCl [(bs, .inr (10, [.ref bw, .int (nI (2)), .int stk])), (bw, .inl (dA 1, 2, .inr (.inl (lwd V))))] H := hP
        have hD : va_D A [(bs, .inr (10, [.ref bw, .int (nI (2)), .int stk])), (bw, .inl (dA 1, 2, .inr (.inl (lwd V))))] := hD
        exact z_vret hx hb hr hS (⟨trivial, by rw [show uOf V = 2 by omega]; exact hP⟩) (by omega) (by omega) dJ3_recalculateWordsInUse_38

set_option maxHeartbeats 4000000 in
set_option maxRecDepth 100000 in
theorem mJ20_numberOfLeadingZeros (l : Launch) (D : va_G) (dA : Nat → ClassId) (ad : Nat → Nat) (sz : Nat) (v : Nat) (h1 : 1 ≤ v) (h2 : v < 2 ^ 32) : Met l yJ20_numberOfLeadingZeros (ws_ yJ20_numberOfLeadingZeros cJ20_numberOfLeadingZeros 2 (some .int)) ({ frames := 0, cells := 0, slots := 0, locals := 0 }) (va_Pc [.int (nI (v))] (zP D dA ad (fun q => sz ≤ q) sz (fun H => True))) (zQi (fun rz H => (∃ r, rz = nI r ∧ r ≤ 31 ∧ v < 2 ^ (32 - r))) (fun q => sz ≤ q)) (0) (0) (fun q => sz ≤ q) := by
  refine Met.ofW (cc := cJ20_numberOfLeadingZeros) (maxL := 2) (ret := (some .int)) (by decide) rfl ?_
  intro p e s m args below meth c s₁ B hml hv
  obtain ⟨rfl, hsz, hC, hP⟩ := hv
  have hx := B.exec
  have hb := B.bytes
  have hr := B.returns
  have hts := atoms_spec (ws := ws_ yJ20_numberOfLeadingZeros cJ20_numberOfLeadingZeros 2 (some .int)) B.pre
  have hts : ∀ w ∈ lw_all, w.before _ s = true := fun w h => hts w (List.mem_cons_of_mem _ h)
  have hown : s.vm.findClass RJ20 = some m.cls := findClass_of_methodNamed B.named
  have hlocks := B.notSynchronized
  subst hsz
  have hK := hC.K
  have hA : ∀ q : Nat, s.heap.size ≤ q → s.heap.size ≤ q := fun _ h => h
  have hS : va_S (fun q => s.heap.size ≤ q) s.heap s.heap [] := va_S.rf
  have hP : va_P D vwCl [] s.heap := va_Pnil
  have hl := lv_entry ([.int (nI (v))]) (n := 2) (Nat.le_of_ble_eq_true rfl)
  rw [lg_entry_eq]
  generalize (lg_sl ([.int (nI (v))]) ++ List.replicate (2 - (lg_sl ([.int (nI (v))])).length) Slot.unset).toArray = ls at hl ⊢
  have hl : lv_has ls 2 [(0, .int (nI (v)))] := hl
  rcases Nat.lt_or_ge v (2 ^ 31) with hb9 | hb9
  · refine lv_iload_n hx hb dJ20_numberOfLeadingZeros_0 rfl (lv_at hl 0 rfl) ?_
    refine lv_if_gt (tgt := 15) hx hb dJ20_numberOfLeadingZeros_1 (by decide) (fun c_1 => ?_) (fun c_1 => ?_)
    · refine lv_bipush (v := nI (31)) hx hb dJ20_numberOfLeadingZeros_15 (by decide) ?_
      refine lv_istore_n (lv' := [(1, .int (nI (31))), (0, .int (nI (v)))]) hx hb dJ20_numberOfLeadingZeros_17 rfl hl (by decide) rfl (fun ls hl => ?_)
      refine lv_iload_n hx hb dJ20_numberOfLeadingZeros_18 rfl (lv_at hl 1 rfl) ?_
      refine lv_ldcw (v := nI (65536)) hx hb hown (hts _ q788) dJ20_numberOfLeadingZeros_19 ?_
      refine lv_icmp_lt (tgt := 33) hx hb dJ20_numberOfLeadingZeros_22 (by decide) (fun c_2 => ?_) (fun c_2 => ?_)
      · have c_2 := (nI_ltI (by omega) (by omega)).1 c_2
        refine lv_iload_n hx hb dJ20_numberOfLeadingZeros_33 rfl (lv_at hl 1 rfl) ?_
        refine lv_sipush (v := nI (256)) hx hb dJ20_numberOfLeadingZeros_34 (by decide) ?_
        refine lv_icmp_lt (tgt := 48) hx hb dJ20_numberOfLeadingZeros_37 (by decide) (fun c_3 => ?_) (fun c_3 => ?_)
        · have c_3 := (nI_ltI (by omega) (by omega)).1 c_3
          refine lv_iload_n hx hb dJ20_numberOfLeadingZeros_48 rfl (lv_at hl 1 rfl) ?_
          refine lv_bipush (v := nI (16)) hx hb dJ20_numberOfLeadingZeros_49 (by decide) ?_
          refine lv_icmp_lt (tgt := 61) hx hb dJ20_numberOfLeadingZeros_51 (by decide) (fun c_4 => ?_) (fun c_4 => ?_)
          · have c_4 := (nI_ltI (by omega) (by omega)).1 c_4
            refine lv_iload_n hx hb dJ20_numberOfLeadingZeros_61 rfl (lv_at hl 1 rfl) ?_
            refine lv_iconst (v := nI (4)) hx hb dJ20_numberOfLeadingZeros_62 (by decide) ?_
            refine lv_icmp_lt (tgt := 73) hx hb dJ20_numberOfLeadingZeros_63 (by decide) (fun c_5 => ?_) (fun c_5 => ?_)
            · have c_5 := (nI_ltI (by omega) (by omega)).1 c_5
              refine lv_iload_n hx hb dJ20_numberOfLeadingZeros_73 rfl (lv_at hl 0 rfl) ?_
              refine lv_iload_n hx hb dJ20_numberOfLeadingZeros_74 rfl (lv_at hl 1 rfl) ?_
              refine lv_iconst (v := nI (1)) hx hb dJ20_numberOfLeadingZeros_75 (by decide) ?_
              refine lv_iushr (v := nI (v / 2 ^ 1)) hx hb dJ20_numberOfLeadingZeros_76 (ush_n (by omega) (by decide)) ?_
              refine lv_isub hx hb dJ20_numberOfLeadingZeros_77 ?_
              refine lv_tope (y := nI (31 - (v / 2 ^ 1))) (pk_sub (by omega)) ?_
              exact z_iret (v := nI (31 - (v / 2 ^ 1))) hx hb hr hS (⟨_, rfl, by omega, by rcases (show (v / 2 ^ 1) = 0 ∨ (v / 2 ^ 1) = 1 by omega) with e9 | e9 <;> rw [e9] <;> simp only [Nat.reduceSub, Nat.sub_zero] <;> omega⟩) (by omega) (by omega) dJ20_numberOfLeadingZeros_78
            · have c_5 := mt (nI_ltI (by omega) (by omega)).2 c_5
              refine lv_iinc (v := nI (29)) (lv' := [(1, .int (nI (29))), (0, .int (nI (v)))]) hx hb dJ20_numberOfLeadingZeros_66 hl (k := 0) rfl (by decide) (by decide) rfl (fun ls hl => ?_)
              refine lv_iload_n hx hb dJ20_numberOfLeadingZeros_69 rfl (lv_at hl 1 rfl) ?_
              refine lv_iconst (v := nI (2)) hx hb dJ20_numberOfLeadingZeros_70 (by decide) ?_
              refine lv_iushr (v := nI (v / 2 ^ 2)) hx hb dJ20_numberOfLeadingZeros_71 (ush_n (by omega) (by decide)) ?_
              refine lv_istore_n (lv' := [(0, .int (nI (v / 2 ^ 2))), (1, .int (nI (29)))]) hx hb dJ20_numberOfLeadingZeros_72 rfl hl (by decide) rfl (fun ls hl => ?_)
              refine lv_iload_n hx hb dJ20_numberOfLeadingZeros_73 rfl (lv_at hl 1 rfl) ?_
              refine lv_iload_n hx hb dJ20_numberOfLeadingZeros_74 rfl (lv_at hl 0 rfl) ?_
              refine lv_iconst (v := nI (1)) hx hb dJ20_numberOfLeadingZeros_75 (by decide) ?_
              refine lv_iushr (v := nI ((v / 2 ^ 2) / 2 ^ 1)) hx hb dJ20_numberOfLeadingZeros_76 (ush_n (by omega) (by decide)) ?_
              refine lv_isub hx hb dJ20_numberOfLeadingZeros_77 ?_
              refine lv_tope (y := nI (29 - ((v / 2 ^ 2) / 2 ^ 1))) (pk_sub (by omega)) ?_
              exact z_iret (v := nI (29 - ((v / 2 ^ 2) / 2 ^ 1))) hx hb hr hS (⟨_, rfl, by omega, by rcases (show ((v / 2 ^ 2) / 2 ^ 1) = 0 ∨ ((v / 2 ^ 2) / 2 ^ 1) = 1 by omega) with e9 | e9 <;> rw [e9] <;> simp only [Nat.reduceSub, Nat.sub_zero] <;> omega⟩) (by omega) (by omega) dJ20_numberOfLeadingZeros_78
          · have c_4 := mt (nI_ltI (by omega) (by omega)).2 c_4
            refine lv_iinc (v := nI (27)) (lv' := [(1, .int (nI (27))), (0, .int (nI (v)))]) hx hb dJ20_numberOfLeadingZeros_54 hl (k := 0) rfl (by decide) (by decide) rfl (fun ls hl => ?_)
            refine lv_iload_n hx hb dJ20_numberOfLeadingZeros_57 rfl (lv_at hl 1 rfl) ?_
            refine lv_iconst (v := nI (4)) hx hb dJ20_numberOfLeadingZeros_58 (by decide) ?_
            refine lv_iushr (v := nI (v / 2 ^ 4)) hx hb dJ20_numberOfLeadingZeros_59 (ush_n (by omega) (by decide)) ?_
            refine lv_istore_n (lv' := [(0, .int (nI (v / 2 ^ 4))), (1, .int (nI (27)))]) hx hb dJ20_numberOfLeadingZeros_60 rfl hl (by decide) rfl (fun ls hl => ?_)
            refine lv_iload_n hx hb dJ20_numberOfLeadingZeros_61 rfl (lv_at hl 0 rfl) ?_
            refine lv_iconst (v := nI (4)) hx hb dJ20_numberOfLeadingZeros_62 (by decide) ?_
            refine lv_icmp_lt (tgt := 73) hx hb dJ20_numberOfLeadingZeros_63 (by decide) (fun c_6 => ?_) (fun c_6 => ?_)
            · have c_6 := (nI_ltI (by omega) (by omega)).1 c_6
              refine lv_iload_n hx hb dJ20_numberOfLeadingZeros_73 rfl (lv_at hl 1 rfl) ?_
              refine lv_iload_n hx hb dJ20_numberOfLeadingZeros_74 rfl (lv_at hl 0 rfl) ?_
              refine lv_iconst (v := nI (1)) hx hb dJ20_numberOfLeadingZeros_75 (by decide) ?_
              refine lv_iushr (v := nI ((v / 2 ^ 4) / 2 ^ 1)) hx hb dJ20_numberOfLeadingZeros_76 (ush_n (by omega) (by decide)) ?_
              refine lv_isub hx hb dJ20_numberOfLeadingZeros_77 ?_
              refine lv_tope (y := nI (27 - ((v / 2 ^ 4) / 2 ^ 1))) (pk_sub (by omega)) ?_
              exact z_iret (v := nI (27 - ((v / 2 ^ 4) / 2 ^ 1))) hx hb hr hS (⟨_, rfl, by omega, by rcases (show ((v / 2 ^ 4) / 2 ^ 1) = 0 ∨ ((v / 2 ^ 4) / 2 ^ 1) = 1 by omega) with e9 | e9 <;> rw [e9] <;> simp only [Nat.reduceSub, Nat.sub_zero] <;> omega⟩) (by omega) (by omega) dJ20_numberOfLeadingZeros_78
            · have c_6 := mt (nI_ltI (by omega) (by omega)).2 c_6
              refine lv_iinc (v := nI (25)) (lv' := [(1, .int (nI (25))), (0, .int (nI (v / 2 ^ 4)))]) hx hb dJ20_numberOfLeadingZeros_66 hl (k := 1) rfl (by decide) (by decide) rfl (fun ls hl => ?_)
              refine lv_iload_n hx hb dJ20_numberOfLeadingZeros_69 rfl (lv_at hl 1 rfl) ?_
              refine lv_iconst (v := nI (2)) hx hb dJ20_numberOfLeadingZeros_70 (by decide) ?_
              refine lv_iushr (v := nI ((v / 2 ^ 4) / 2 ^ 2)) hx hb dJ20_numberOfLeadingZeros_71 (ush_n (by omega) (by decide)) ?_
              refine lv_istore_n (lv' := [(0, .int (nI ((v / 2 ^ 4) / 2 ^ 2))), (1, .int (nI (25)))]) hx hb dJ20_numberOfLeadingZeros_72 rfl hl (by decide) rfl (fun ls hl => ?_)
              refine lv_iload_n hx hb dJ20_numberOfLeadingZeros_73 rfl (lv_at hl 1 rfl) ?_
              refine lv_iload_n hx hb dJ20_numberOfLeadingZeros_74 rfl (lv_at hl 0 rfl) ?_
              refine lv_iconst (v := nI (1)) hx hb dJ20_numberOfLeadingZeros_75 (by decide) ?_
              refine lv_iushr (v := nI (((v / 2 ^ 4) / 2 ^ 2) / 2 ^ 1)) hx hb dJ20_numberOfLeadingZeros_76 (ush_n (by omega) (by decide)) ?_
              refine lv_isub hx hb dJ20_numberOfLeadingZeros_77 ?_
              refine lv_tope (y := nI (25 - (((v / 2 ^ 4) / 2 ^ 2) / 2 ^ 1))) (pk_sub (by omega)) ?_
              exact z_iret (v := nI (25 - (((v / 2 ^ 4) / 2 ^ 2) / 2 ^ 1))) hx hb hr hS (⟨_, rfl, by omega, by rcases (show (((v / 2 ^ 4) / 2 ^ 2) / 2 ^ 1) = 0 ∨ (((v / 2 ^ 4) / 2 ^ 2) / 2 ^ 1) = 1 by omega) with e9 | e9 <;> rw [e9] <;> simp only [Nat.reduceSub, Nat.sub_zero] <;> omega⟩) (by omega) (by omega) dJ20_numberOfLeadingZeros_78
        · have c_3 := mt (nI_ltI (by omega) (by omega)).2 c_3
          refine lv_iinc (v := nI (23)) (lv' := [(1, .int (nI (23))), (0, .int (nI (v)))]) hx hb dJ20_numberOfLeadingZeros_40 hl (k := 0) rfl (by decide) (by decide) rfl (fun ls hl => ?_)
          refine lv_iload_n hx hb dJ20_numberOfLeadingZeros_43 rfl (lv_at hl 1 rfl) ?_
          refine lv_bipush (v := nI (8)) hx hb dJ20_numberOfLeadingZeros_44 (by decide) ?_
          refine lv_iushr (v := nI (v / 2 ^ 8)) hx hb dJ20_numberOfLeadingZeros_46 (ush_n (by omega) (by decide)) ?_
          refine lv_istore_n (lv' := [(0, .int (nI (v / 2 ^ 8))), (1, .int (nI (23)))]) hx hb dJ20_numberOfLeadingZeros_47 rfl hl (by decide) rfl (fun ls hl => ?_)
          refine lv_iload_n hx hb dJ20_numberOfLeadingZeros_48 rfl (lv_at hl 0 rfl) ?_
          refine lv_bipush (v := nI (16)) hx hb dJ20_numberOfLeadingZeros_49 (by decide) ?_
          refine lv_icmp_lt (tgt := 61) hx hb dJ20_numberOfLeadingZeros_51 (by decide) (fun c_7 => ?_) (fun c_7 => ?_)
          · have c_7 := (nI_ltI (by omega) (by omega)).1 c_7
            refine lv_iload_n hx hb dJ20_numberOfLeadingZeros_61 rfl (lv_at hl 0 rfl) ?_
            refine lv_iconst (v := nI (4)) hx hb dJ20_numberOfLeadingZeros_62 (by decide) ?_
            refine lv_icmp_lt (tgt := 73) hx hb dJ20_numberOfLeadingZeros_63 (by decide) (fun c_8 => ?_) (fun c_8 => ?_)
            · have c_8 := (nI_ltI (by omega) (by omega)).1 c_8
              refine lv_iload_n hx hb dJ20_numberOfLeadingZeros_73 rfl (lv_at hl 1 rfl) ?_
              refine lv_iload_n hx hb dJ20_numberOfLeadingZeros_74 rfl (lv_at hl 0 rfl) ?_
              refine lv_iconst (v := nI (1)) hx hb dJ20_numberOfLeadingZeros_75 (by decide) ?_
              refine lv_iushr (v := nI ((v / 2 ^ 8) / 2 ^ 1)) hx hb dJ20_numberOfLeadingZeros_76 (ush_n (by omega) (by decide)) ?_
              refine lv_isub hx hb dJ20_numberOfLeadingZeros_77 ?_
              refine lv_tope (y := nI (23 - ((v / 2 ^ 8) / 2 ^ 1))) (pk_sub (by omega)) ?_
              exact z_iret (v := nI (23 - ((v / 2 ^ 8) / 2 ^ 1))) hx hb hr hS (⟨_, rfl, by omega, by rcases (show ((v / 2 ^ 8) / 2 ^ 1) = 0 ∨ ((v / 2 ^ 8) / 2 ^ 1) = 1 by omega) with e9 | e9 <;> rw [e9] <;> simp only [Nat.reduceSub, Nat.sub_zero] <;> omega⟩) (by omega) (by omega) dJ20_numberOfLeadingZeros_78
            · have c_8 := mt (nI_ltI (by omega) (by omega)).2 c_8
              refine lv_iinc (v := nI (21)) (lv' := [(1, .int (nI (21))), (0, .int (nI (v / 2 ^ 8)))]) hx hb dJ20_numberOfLeadingZeros_66 hl (k := 1) rfl (by decide) (by decide) rfl (fun ls hl => ?_)
              refine lv_iload_n hx hb dJ20_numberOfLeadingZeros_69 rfl (lv_at hl 1 rfl) ?_
              refine lv_iconst (v := nI (2)) hx hb dJ20_numberOfLeadingZeros_70 (by decide) ?_
              refine lv_iushr (v := nI ((v / 2 ^ 8) / 2 ^ 2)) hx hb dJ20_numberOfLeadingZeros_71 (ush_n (by omega) (by decide)) ?_
              refine lv_istore_n (lv' := [(0, .int (nI ((v / 2 ^ 8) / 2 ^ 2))), (1, .int (nI (21)))]) hx hb dJ20_numberOfLeadingZeros_72 rfl hl (by decide) rfl (fun ls hl => ?_)
              refine lv_iload_n hx hb dJ20_numberOfLeadingZeros_73 rfl (lv_at hl 1 rfl) ?_
              refine lv_iload_n hx hb dJ20_numberOfLeadingZeros_74 rfl (lv_at hl 0 rfl) ?_
              refine lv_iconst (v := nI (1)) hx hb dJ20_numberOfLeadingZeros_75 (by decide) ?_
              refine lv_iushr (v := nI (((v / 2 ^ 8) / 2 ^ 2) / 2 ^ 1)) hx hb dJ20_numberOfLeadingZeros_76 (ush_n (by omega) (by decide)) ?_
              refine lv_isub hx hb dJ20_numberOfLeadingZeros_77 ?_
              refine lv_tope (y := nI (21 - (((v / 2 ^ 8) / 2 ^ 2) / 2 ^ 1))) (pk_sub (by omega)) ?_
              exact z_iret (v := nI (21 - (((v / 2 ^ 8) / 2 ^ 2) / 2 ^ 1))) hx hb hr hS (⟨_, rfl, by omega, by rcases (show (((v / 2 ^ 8) / 2 ^ 2) / 2 ^ 1) = 0 ∨ (((v / 2 ^ 8) / 2 ^ 2) / 2 ^ 1) = 1 by omega) with e9 | e9 <;> rw [e9] <;> simp only [Nat.reduceSub, Nat.sub_zero] <;> omega⟩) (by omega) (by omega) dJ20_numberOfLeadingZeros_78
          · have c_7 := mt (nI_ltI (by omega) (by omega)).2 c_7
            refine lv_iinc (v := nI (19)) (lv' := [(1, .int (nI (19))), (0, .int (nI (v / 2 ^ 8)))]) hx hb dJ20_numberOfLeadingZeros_54 hl (k := 1) rfl (by decide) (by decide) rfl (fun ls hl => ?_)
            refine lv_iload_n hx hb dJ20_numberOfLeadingZeros_57 rfl (lv_at hl 1 rfl) ?_
            refine lv_iconst (v := nI (4)) hx hb dJ20_numberOfLeadingZeros_58 (by decide) ?_
            refine lv_iushr (v := nI ((v / 2 ^ 8) / 2 ^ 4)) hx hb dJ20_numberOfLeadingZeros_59 (ush_n (by omega) (by decide)) ?_
            refine lv_istore_n (lv' := [(0, .int (nI ((v / 2 ^ 8) / 2 ^ 4))), (1, .int (nI (19)))]) hx hb dJ20_numberOfLeadingZeros_60 rfl hl (by decide) rfl (fun ls hl => ?_)
            refine lv_iload_n hx hb dJ20_numberOfLeadingZeros_61 rfl (lv_at hl 0 rfl) ?_
            refine lv_iconst (v := nI (4)) hx hb dJ20_numberOfLeadingZeros_62 (by decide) ?_
            refine lv_icmp_lt (tgt := 73) hx hb dJ20_numberOfLeadingZeros_63 (by decide) (fun c_9 => ?_) (fun c_9 => ?_)
            · have c_9 := (nI_ltI (by omega) (by omega)).1 c_9
              refine lv_iload_n hx hb dJ20_numberOfLeadingZeros_73 rfl (lv_at hl 1 rfl) ?_
              refine lv_iload_n hx hb dJ20_numberOfLeadingZeros_74 rfl (lv_at hl 0 rfl) ?_
              refine lv_iconst (v := nI (1)) hx hb dJ20_numberOfLeadingZeros_75 (by decide) ?_
              refine lv_iushr (v := nI (((v / 2 ^ 8) / 2 ^ 4) / 2 ^ 1)) hx hb dJ20_numberOfLeadingZeros_76 (ush_n (by omega) (by decide)) ?_
              refine lv_isub hx hb dJ20_numberOfLeadingZeros_77 ?_
              refine lv_tope (y := nI (19 - (((v / 2 ^ 8) / 2 ^ 4) / 2 ^ 1))) (pk_sub (by omega)) ?_
              exact z_iret (v := nI (19 - (((v / 2 ^ 8) / 2 ^ 4) / 2 ^ 1))) hx hb hr hS (⟨_, rfl, by omega, by rcases (show (((v / 2 ^ 8) / 2 ^ 4) / 2 ^ 1) = 0 ∨ (((v / 2 ^ 8) / 2 ^ 4) / 2 ^ 1) = 1 by omega) with e9 | e9 <;> rw [e9] <;> simp only [Nat.reduceSub, Nat.sub_zero] <;> omega⟩) (by omega) (by omega) dJ20_numberOfLeadingZeros_78
            · have c_9 := mt (nI_ltI (by omega) (by omega)).2 c_9
              refine lv_iinc (v := nI (17)) (lv' := [(1, .int (nI (17))), (0, .int (nI ((v / 2 ^ 8) / 2 ^ 4)))]) hx hb dJ20_numberOfLeadingZeros_66 hl (k := 1) rfl (by decide) (by decide) rfl (fun ls hl => ?_)
              refine lv_iload_n hx hb dJ20_numberOfLeadingZeros_69 rfl (lv_at hl 1 rfl) ?_
              refine lv_iconst (v := nI (2)) hx hb dJ20_numberOfLeadingZeros_70 (by decide) ?_
              refine lv_iushr (v := nI (((v / 2 ^ 8) / 2 ^ 4) / 2 ^ 2)) hx hb dJ20_numberOfLeadingZeros_71 (ush_n (by omega) (by decide)) ?_
              refine lv_istore_n (lv' := [(0, .int (nI (((v / 2 ^ 8) / 2 ^ 4) / 2 ^ 2))), (1, .int (nI (17)))]) hx hb dJ20_numberOfLeadingZeros_72 rfl hl (by decide) rfl (fun ls hl => ?_)
              refine lv_iload_n hx hb dJ20_numberOfLeadingZeros_73 rfl (lv_at hl 1 rfl) ?_
              refine lv_iload_n hx hb dJ20_numberOfLeadingZeros_74 rfl (lv_at hl 0 rfl) ?_
              refine lv_iconst (v := nI (1)) hx hb dJ20_numberOfLeadingZeros_75 (by decide) ?_
              refine lv_iushr (v := nI ((((v / 2 ^ 8) / 2 ^ 4) / 2 ^ 2) / 2 ^ 1)) hx hb dJ20_numberOfLeadingZeros_76 (ush_n (by omega) (by decide)) ?_
              refine lv_isub hx hb dJ20_numberOfLeadingZeros_77 ?_
              refine lv_tope (y := nI (17 - ((((v / 2 ^ 8) / 2 ^ 4) / 2 ^ 2) / 2 ^ 1))) (pk_sub (by omega)) ?_
              exact z_iret (v := nI (17 - ((((v / 2 ^ 8) / 2 ^ 4) / 2 ^ 2) / 2 ^ 1))) hx hb hr hS (⟨_, rfl, by omega, by rcases (show ((((v / 2 ^ 8) / 2 ^ 4) / 2 ^ 2) / 2 ^ 1) = 0 ∨ ((((v / 2 ^ 8) / 2 ^ 4) / 2 ^ 2) / 2 ^ 1) = 1 by omega) with e9 | e9 <;> rw [e9] <;> simp only [Nat.reduceSub, Nat.sub_zero] <;> omega⟩) (by omega) (by omega) dJ20_numberOfLeadingZeros_78
      · have c_2 := mt (nI_ltI (by omega) (by omega)).2 c_2
        refine lv_iinc (v := nI (15)) (lv' := [(1, .int (nI (15))), (0, .int (nI (v)))]) hx hb dJ20_numberOfLeadingZeros_25 hl (k := 0) rfl (by decide) (by decide) rfl (fun ls hl => ?_)
        refine lv_iload_n hx hb dJ20_numberOfLeadingZeros_28 rfl (lv_at hl 1 rfl) ?_
        refine lv_bipush (v := nI (16)) hx hb dJ20_numberOfLeadingZeros_29 (by decide) ?_
        refine lv_iushr (v := nI (v / 2 ^ 16)) hx hb dJ20_numberOfLeadingZeros_31 (ush_n (by omega) (by decide)) ?_
        refine lv_istore_n (lv' := [(0, .int (nI (v / 2 ^ 16))), (1, .int (nI (15)))]) hx hb dJ20_numberOfLeadingZeros_32 rfl hl (by decide) rfl (fun ls hl => ?_)
        refine lv_iload_n hx hb dJ20_numberOfLeadingZeros_33 rfl (lv_at hl 0 rfl) ?_
        refine lv_sipush (v := nI (256)) hx hb dJ20_numberOfLeadingZeros_34 (by decide) ?_
        refine lv_icmp_lt (tgt := 48) hx hb dJ20_numberOfLeadingZeros_37 (by decide) (fun c_10 => ?_) (fun c_10 => ?_)
        · have c_10 := (nI_ltI (by omega) (by omega)).1 c_10
          refine lv_iload_n hx hb dJ20_numberOfLeadingZeros_48 rfl (lv_at hl 0 rfl) ?_
          refine lv_bipush (v := nI (16)) hx hb dJ20_numberOfLeadingZeros_49 (by decide) ?_
          refine lv_icmp_lt (tgt := 61) hx hb dJ20_numberOfLeadingZeros_51 (by decide) (fun c_11 => ?_) (fun c_11 => ?_)
          · have c_11 := (nI_ltI (by omega) (by omega)).1 c_11
            refine lv_iload_n hx hb dJ20_numberOfLeadingZeros_61 rfl (lv_at hl 0 rfl) ?_
            refine lv_iconst (v := nI (4)) hx hb dJ20_numberOfLeadingZeros_62 (by decide) ?_
            refine lv_icmp_lt (tgt := 73) hx hb dJ20_numberOfLeadingZeros_63 (by decide) (fun c_12 => ?_) (fun c_12 => ?_)
            · have c_12 := (nI_ltI (by omega) (by omega)).1 c_12
              refine lv_iload_n hx hb dJ20_numberOfLeadingZeros_73 rfl (lv_at hl 1 rfl) ?_
              refine lv_iload_n hx hb dJ20_numberOfLeadingZeros_74 rfl (lv_at hl 0 rfl) ?_
              refine lv_iconst (v := nI (1)) hx hb dJ20_numberOfLeadingZeros_75 (by decide) ?_
              refine lv_iushr (v := nI ((v / 2 ^ 16) / 2 ^ 1)) hx hb dJ20_numberOfLeadingZeros_76 (ush_n (by omega) (by decide)) ?_
              refine lv_isub hx hb dJ20_numberOfLeadingZeros_77 ?_
              refine lv_tope (y := nI (15 - ((v / 2 ^ 16) / 2 ^ 1))) (pk_sub (by omega)) ?_
              exact z_iret (v := nI (15 - ((v / 2 ^ 16) / 2 ^ 1))) hx hb hr hS (⟨_, rfl, by omega, by rcases (show ((v / 2 ^ 16) / 2 ^ 1) = 0 ∨ ((v / 2 ^ 16) / 2 ^ 1) = 1 by omega) with e9 | e9 <;> rw [e9] <;> simp only [Nat.reduceSub, Nat.sub_zero] <;> omega⟩) (by omega) (by omega) dJ20_numberOfLeadingZeros_78
            · have c_12 := mt (nI_ltI (by omega) (by omega)).2 c_12
              refine lv_iinc (v := nI (13)) (lv' := [(1, .int (nI (13))), (0, .int (nI (v / 2 ^ 16)))]) hx hb dJ20_numberOfLeadingZeros_66 hl (k := 1) rfl (by decide) (by decide) rfl (fun ls hl => ?_)
              refine lv_iload_n hx hb dJ20_numberOfLeadingZeros_69 rfl (lv_at hl 1 rfl) ?_
              refine lv_iconst (v := nI (2)) hx hb dJ20_numberOfLeadingZeros_70 (by decide) ?_
              refine lv_iushr (v := nI ((v / 2 ^ 16) / 2 ^ 2)) hx hb dJ20_numberOfLeadingZeros_71 (ush_n (by omega) (by decide)) ?_
              refine lv_istore_n (lv' := [(0, .int (nI ((v / 2 ^ 16) / 2 ^ 2))), (1, .int (nI (13)))]) hx hb dJ20_numberOfLeadingZeros_72 rfl hl (by decide) rfl (fun ls hl => ?_)
              refine lv_iload_n hx hb dJ20_numberOfLeadingZeros_73 rfl (lv_at hl 1 rfl) ?_
              refine lv_iload_n hx hb dJ20_numberOfLeadingZeros_74 rfl (lv_at hl 0 rfl) ?_
              refine lv_iconst (v := nI (1)) hx hb dJ20_numberOfLeadingZeros_75 (by decide) ?_
              refine lv_iushr (v := nI (((v / 2 ^ 16) / 2 ^ 2) / 2 ^ 1)) hx hb dJ20_numberOfLeadingZeros_76 (ush_n (by omega) (by decide)) ?_
              refine lv_isub hx hb dJ20_numberOfLeadingZeros_77 ?_
              refine lv_tope (y := nI (13 - (((v / 2 ^ 16) / 2 ^ 2) / 2 ^ 1))) (pk_sub (by omega)) ?_
              exact z_iret (v := nI (13 - (((v / 2 ^ 16) / 2 ^ 2) / 2 ^ 1))) hx hb hr hS (⟨_, rfl, by omega, by rcases (show (((v / 2 ^ 16) / 2 ^ 2) / 2 ^ 1) = 0 ∨ (((v / 2 ^ 16) / 2 ^ 2) / 2 ^ 1) = 1 by omega) with e9 | e9 <;> rw [e9] <;> simp only [Nat.reduceSub, Nat.sub_zero] <;> omega⟩) (by omega) (by omega) dJ20_numberOfLeadingZeros_78
          · have c_11 := mt (nI_ltI (by omega) (by omega)).2 c_11
            refine lv_iinc (v := nI (11)) (lv' := [(1, .int (nI (11))), (0, .int (nI (v / 2 ^ 16)))]) hx hb dJ20_numberOfLeadingZeros_54 hl (k := 1) rfl (by decide) (by decide) rfl (fun ls hl => ?_)
            refine lv_iload_n hx hb dJ20_numberOfLeadingZeros_57 rfl (lv_at hl 1 rfl) ?_
            refine lv_iconst (v := nI (4)) hx hb dJ20_numberOfLeadingZeros_58 (by decide) ?_
            refine lv_iushr (v := nI ((v / 2 ^ 16) / 2 ^ 4)) hx hb dJ20_numberOfLeadingZeros_59 (ush_n (by omega) (by decide)) ?_
            refine lv_istore_n (lv' := [(0, .int (nI ((v / 2 ^ 16) / 2 ^ 4))), (1, .int (nI (11)))]) hx hb dJ20_numberOfLeadingZeros_60 rfl hl (by decide) rfl (fun ls hl => ?_)
            refine lv_iload_n hx hb dJ20_numberOfLeadingZeros_61 rfl (lv_at hl 0 rfl) ?_
            refine lv_iconst (v := nI (4)) hx hb dJ20_numberOfLeadingZeros_62 (by decide) ?_
            refine lv_icmp_lt (tgt := 73) hx hb dJ20_numberOfLeadingZeros_63 (by decide) (fun c_13 => ?_) (fun c_13 => ?_)
            · have c_13 := (nI_ltI (by omega) (by omega)).1 c_13
              refine lv_iload_n hx hb dJ20_numberOfLeadingZeros_73 rfl (lv_at hl 1 rfl) ?_
              refine lv_iload_n hx hb dJ20_numberOfLeadingZeros_74 rfl (lv_at hl 0 rfl) ?_
              refine lv_iconst (v := nI (1)) hx hb dJ20_numberOfLeadingZeros_75 (by decide) ?_
              refine lv_iushr (v := nI (((v / 2 ^ 16) / 2 ^ 4) / 2 ^ 1)) hx hb dJ20_numberOfLeadingZeros_76 (ush_n (by omega) (by decide)) ?_
              refine lv_isub hx hb dJ20_numberOfLeadingZeros_77 ?_
              refine lv_tope (y := nI (11 - (((v / 2 ^ 16) / 2 ^ 4) / 2 ^ 1))) (pk_sub (by omega)) ?_
              exact z_iret (v := nI (11 - (((v / 2 ^ 16) / 2 ^ 4) / 2 ^ 1))) hx hb hr hS (⟨_, rfl, by omega, by rcases (show (((v / 2 ^ 16) / 2 ^ 4) / 2 ^ 1) = 0 ∨ (((v / 2 ^ 16) / 2 ^ 4) / 2 ^ 1) = 1 by omega) with e9 | e9 <;> rw [e9] <;> simp only [Nat.reduceSub, Nat.sub_zero] <;> omega⟩) (by omega) (by omega) dJ20_numberOfLeadingZeros_78
            · have c_13 := mt (nI_ltI (by omega) (by omega)).2 c_13
              refine lv_iinc (v := nI (9)) (lv' := [(1, .int (nI (9))), (0, .int (nI ((v / 2 ^ 16) / 2 ^ 4)))]) hx hb dJ20_numberOfLeadingZeros_66 hl (k := 1) rfl (by decide) (by decide) rfl (fun ls hl => ?_)
              refine lv_iload_n hx hb dJ20_numberOfLeadingZeros_69 rfl (lv_at hl 1 rfl) ?_
              refine lv_iconst (v := nI (2)) hx hb dJ20_numberOfLeadingZeros_70 (by decide) ?_
              refine lv_iushr (v := nI (((v / 2 ^ 16) / 2 ^ 4) / 2 ^ 2)) hx hb dJ20_numberOfLeadingZeros_71 (ush_n (by omega) (by decide)) ?_
              refine lv_istore_n (lv' := [(0, .int (nI (((v / 2 ^ 16) / 2 ^ 4) / 2 ^ 2))), (1, .int (nI (9)))]) hx hb dJ20_numberOfLeadingZeros_72 rfl hl (by decide) rfl (fun ls hl => ?_)
              refine lv_iload_n hx hb dJ20_numberOfLeadingZeros_73 rfl (lv_at hl 1 rfl) ?_
              refine lv_iload_n hx hb dJ20_numberOfLeadingZeros_74 rfl (lv_at hl 0 rfl) ?_
              refine lv_iconst (v := nI (1)) hx hb dJ20_numberOfLeadingZeros_75 (by decide) ?_
              refine lv_iushr (v := nI ((((v / 2 ^ 16) / 2 ^ 4) / 2 ^ 2) / 2 ^ 1)) hx hb dJ20_numberOfLeadingZeros_76 (ush_n (by omega) (by decide)) ?_
              refine lv_isub hx hb dJ20_numberOfLeadingZeros_77 ?_
              refine lv_tope (y := nI (9 - ((((v / 2 ^ 16) / 2 ^ 4) / 2 ^ 2) / 2 ^ 1))) (pk_sub (by omega)) ?_
              exact z_iret (v := nI (9 - ((((v / 2 ^ 16) / 2 ^ 4) / 2 ^ 2) / 2 ^ 1))) hx hb hr hS (⟨_, rfl, by omega, by rcases (show ((((v / 2 ^ 16) / 2 ^ 4) / 2 ^ 2) / 2 ^ 1) = 0 ∨ ((((v / 2 ^ 16) / 2 ^ 4) / 2 ^ 2) / 2 ^ 1) = 1 by omega) with e9 | e9 <;> rw [e9] <;> simp only [Nat.reduceSub, Nat.sub_zero] <;> omega⟩) (by omega) (by omega) dJ20_numberOfLeadingZeros_78
        · have c_10 := mt (nI_ltI (by omega) (by omega)).2 c_10
          refine lv_iinc (v := nI (7)) (lv' := [(1, .int (nI (7))), (0, .int (nI (v / 2 ^ 16)))]) hx hb dJ20_numberOfLeadingZeros_40 hl (k := 1) rfl (by decide) (by decide) rfl (fun ls hl => ?_)
          refine lv_iload_n hx hb dJ20_numberOfLeadingZeros_43 rfl (lv_at hl 1 rfl) ?_
          refine lv_bipush (v := nI (8)) hx hb dJ20_numberOfLeadingZeros_44 (by decide) ?_
          refine lv_iushr (v := nI ((v / 2 ^ 16) / 2 ^ 8)) hx hb dJ20_numberOfLeadingZeros_46 (ush_n (by omega) (by decide)) ?_
          refine lv_istore_n (lv' := [(0, .int (nI ((v / 2 ^ 16) / 2 ^ 8))), (1, .int (nI (7)))]) hx hb dJ20_numberOfLeadingZeros_47 rfl hl (by decide) rfl (fun ls hl => ?_)
          refine lv_iload_n hx hb dJ20_numberOfLeadingZeros_48 rfl (lv_at hl 0 rfl) ?_
          refine lv_bipush (v := nI (16)) hx hb dJ20_numberOfLeadingZeros_49 (by decide) ?_
          refine lv_icmp_lt (tgt := 61) hx hb dJ20_numberOfLeadingZeros_51 (by decide) (fun c_14 => ?_) (fun c_14 => ?_)
          · have c_14 := (nI_ltI (by omega) (by omega)).1 c_14
            refine lv_iload_n hx hb dJ20_numberOfLeadingZeros_61 rfl (lv_at hl 0 rfl) ?_
            refine lv_iconst (v := nI (4)) hx hb dJ20_numberOfLeadingZeros_62 (by decide) ?_
            refine lv_icmp_lt (tgt := 73) hx hb dJ20_numberOfLeadingZeros_63 (by decide) (fun c_15 => ?_) (fun c_15 => ?_)
            · have c_15 := (nI_ltI (by omega) (by omega)).1 c_15
              refine lv_iload_n hx hb dJ20_numberOfLeadingZeros_73 rfl (lv_at hl 1 rfl) ?_
              refine lv_iload_n hx hb dJ20_numberOfLeadingZeros_74 rfl (lv_at hl 0 rfl) ?_
              refine lv_iconst (v := nI (1)) hx hb dJ20_numberOfLeadingZeros_75 (by decide) ?_
              refine lv_iushr (v := nI (((v / 2 ^ 16) / 2 ^ 8) / 2 ^ 1)) hx hb dJ20_numberOfLeadingZeros_76 (ush_n (by omega) (by decide)) ?_
              refine lv_isub hx hb dJ20_numberOfLeadingZeros_77 ?_
              refine lv_tope (y := nI (7 - (((v / 2 ^ 16) / 2 ^ 8) / 2 ^ 1))) (pk_sub (by omega)) ?_
              exact z_iret (v := nI (7 - (((v / 2 ^ 16) / 2 ^ 8) / 2 ^ 1))) hx hb hr hS (⟨_, rfl, by omega, by rcases (show (((v / 2 ^ 16) / 2 ^ 8) / 2 ^ 1) = 0 ∨ (((v / 2 ^ 16) / 2 ^ 8) / 2 ^ 1) = 1 by omega) with e9 | e9 <;> rw [e9] <;> simp only [Nat.reduceSub, Nat.sub_zero] <;> omega⟩) (by omega) (by omega) dJ20_numberOfLeadingZeros_78
            · have c_15 := mt (nI_ltI (by omega) (by omega)).2 c_15
              refine lv_iinc (v := nI (5)) (lv' := [(1, .int (nI (5))), (0, .int (nI ((v / 2 ^ 16) / 2 ^ 8)))]) hx hb dJ20_numberOfLeadingZeros_66 hl (k := 1) rfl (by decide) (by decide) rfl (fun ls hl => ?_)
              refine lv_iload_n hx hb dJ20_numberOfLeadingZeros_69 rfl (lv_at hl 1 rfl) ?_
              refine lv_iconst (v := nI (2)) hx hb dJ20_numberOfLeadingZeros_70 (by decide) ?_
              refine lv_iushr (v := nI (((v / 2 ^ 16) / 2 ^ 8) / 2 ^ 2)) hx hb dJ20_numberOfLeadingZeros_71 (ush_n (by omega) (by decide)) ?_
              refine lv_istore_n (lv' := [(0, .int (nI (((v / 2 ^ 16) / 2 ^ 8) / 2 ^ 2))), (1, .int (nI (5)))]) hx hb dJ20_numberOfLeadingZeros_72 rfl hl (by decide) rfl (fun ls hl => ?_)
              refine lv_iload_n hx hb dJ20_numberOfLeadingZeros_73 rfl (lv_at hl 1 rfl) ?_
              refine lv_iload_n hx hb dJ20_numberOfLeadingZeros_74 rfl (lv_at hl 0 rfl) ?_
              refine lv_iconst (v := nI (1)) hx hb dJ20_numberOfLeadingZeros_75 (by decide) ?_
              refine lv_iushr (v := nI ((((v / 2 ^ 16) / 2 ^ 8) / 2 ^ 2) / 2 ^ 1)) hx hb dJ20_numberOfLeadingZeros_76 (ush_n (by omega) (by decide)) ?_
              refine lv_isub hx hb dJ20_numberOfLeadingZeros_77 ?_
              refine lv_tope (y := nI (5 - ((((v / 2 ^ 16) / 2 ^ 8) / 2 ^ 2) / 2 ^ 1))) (pk_sub (by omega)) ?_
              exact z_iret (v := nI (5 - ((((v / 2 ^ 16) / 2 ^ 8) / 2 ^ 2) / 2 ^ 1))) hx hb hr hS (⟨_, rfl, by omega, by rcases (show ((((v / 2 ^ 16) / 2 ^ 8) / 2 ^ 2) / 2 ^ 1) = 0 ∨ ((((v / 2 ^ 16) / 2 ^ 8) / 2 ^ 2) / 2 ^ 1) = 1 by omega) with e9 | e9 <;> rw [e9] <;> simp only [Nat.reduceSub, Nat.sub_zero] <;> omega⟩) (by omega) (by omega) dJ20_numberOfLeadingZeros_78
          · have c_14 := mt (nI_ltI (by omega) (by omega)).2 c_14
            refine lv_iinc (v := nI (3)) (lv' := [(1, .int (nI (3))), (0, .int (nI ((v / 2 ^ 16) / 2 ^ 8)))]) hx hb dJ20_numberOfLeadingZeros_54 hl (k := 1) rfl (by decide) (by decide) rfl (fun ls hl => ?_)
            refine lv_iload_n hx hb dJ20_numberOfLeadingZeros_57 rfl (lv_at hl 1 rfl) ?_
            refine lv_iconst (v := nI (4)) hx hb dJ20_numberOfLeadingZeros_58 (by decide) ?_
            refine lv_iushr (v := nI (((v / 2 ^ 16) / 2 ^ 8) / 2 ^ 4)) hx hb dJ20_numberOfLeadingZeros_59 (ush_n (by omega) (by decide)) ?_
            refine lv_istore_n (lv' := [(0, .int (nI (((v / 2 ^ 16) / 2 ^ 8) / 2 ^ 4))), (1, .int (nI (3)))]) hx hb dJ20_numberOfLeadingZeros_60 rfl hl (by decide) rfl (fun ls hl => ?_)
            refine lv_iload_n hx hb dJ20_numberOfLeadingZeros_61 rfl (lv_at hl 0 rfl) ?_
            refine lv_iconst (v := nI (4)) hx hb dJ20_numberOfLeadingZeros_62 (by decide) ?_
            refine lv_icmp_lt (tgt := 73) hx hb dJ20_numberOfLeadingZeros_63 (by decide) (fun c_16 => ?_) (fun c_16 => ?_)
            · have c_16 := (nI_ltI (by omega) (by omega)).1 c_16
              refine lv_iload_n hx hb dJ20_numberOfLeadingZeros_73 rfl (lv_at hl 1 rfl) ?_
              refine lv_iload_n hx hb dJ20_numberOfLeadingZeros_74 rfl (lv_at hl 0 rfl) ?_
              refine lv_iconst (v := nI (1)) hx hb dJ20_numberOfLeadingZeros_75 (by decide) ?_
              refine lv_iushr (v := nI ((((v / 2 ^ 16) / 2 ^ 8) / 2 ^ 4) / 2 ^ 1)) hx hb dJ20_numberOfLeadingZeros_76 (ush_n (by omega) (by decide)) ?_
              refine lv_isub hx hb dJ20_numberOfLeadingZeros_77 ?_
              refine lv_tope (y := nI (3 - ((((v / 2 ^ 16) / 2 ^ 8) / 2 ^ 4) / 2 ^ 1))) (pk_sub (by omega)) ?_
              exact z_iret (v := nI (3 - ((((v / 2 ^ 16) / 2 ^ 8) / 2 ^ 4) / 2 ^ 1))) hx hb hr hS (⟨_, rfl, by omega, by rcases (show ((((v / 2 ^ 16) / 2 ^ 8) / 2 ^ 4) / 2 ^ 1) = 0 ∨ ((((v / 2 ^ 16) / 2 ^ 8) / 2 ^ 4) / 2 ^ 1) = 1 by omega) with e9 | e9 <;> rw [e9] <;> simp only [Nat.reduceSub, Nat.sub_zero] <;> omega⟩) (by omega) (by omega) dJ20_numberOfLeadingZeros_78
            · have c_16 := mt (nI_ltI (by omega) (by omega)).2 c_16
              refine lv_iinc (v := nI (1)) (lv' := [(1, .int (nI (1))), (0, .int (nI (((v / 2 ^ 16) / 2 ^ 8) / 2 ^ 4)))]) hx hb dJ20_numberOfLeadingZeros_66 hl (k := 1) rfl (by decide) (by decide) rfl (fun ls hl => ?_)
              refine lv_iload_n hx hb dJ20_numberOfLeadingZeros_69 rfl (lv_at hl 1 rfl) ?_
              refine lv_iconst (v := nI (2)) hx hb dJ20_numberOfLeadingZeros_70 (by decide) ?_
              refine lv_iushr (v := nI ((((v / 2 ^ 16) / 2 ^ 8) / 2 ^ 4) / 2 ^ 2)) hx hb dJ20_numberOfLeadingZeros_71 (ush_n (by omega) (by decide)) ?_
              refine lv_istore_n (lv' := [(0, .int (nI ((((v / 2 ^ 16) / 2 ^ 8) / 2 ^ 4) / 2 ^ 2))), (1, .int (nI (1)))]) hx hb dJ20_numberOfLeadingZeros_72 rfl hl (by decide) rfl (fun ls hl => ?_)
              refine lv_iload_n hx hb dJ20_numberOfLeadingZeros_73 rfl (lv_at hl 1 rfl) ?_
              refine lv_iload_n hx hb dJ20_numberOfLeadingZeros_74 rfl (lv_at hl 0 rfl) ?_
              refine lv_iconst (v := nI (1)) hx hb dJ20_numberOfLeadingZeros_75 (by decide) ?_
              refine lv_iushr (v := nI (((((v / 2 ^ 16) / 2 ^ 8) / 2 ^ 4) / 2 ^ 2) / 2 ^ 1)) hx hb dJ20_numberOfLeadingZeros_76 (ush_n (by omega) (by decide)) ?_
              refine lv_isub hx hb dJ20_numberOfLeadingZeros_77 ?_
              refine lv_tope (y := nI (1 - (((((v / 2 ^ 16) / 2 ^ 8) / 2 ^ 4) / 2 ^ 2) / 2 ^ 1))) (pk_sub (by omega)) ?_
              exact z_iret (v := nI (1 - (((((v / 2 ^ 16) / 2 ^ 8) / 2 ^ 4) / 2 ^ 2) / 2 ^ 1))) hx hb hr hS (⟨_, rfl, by omega, by rcases (show (((((v / 2 ^ 16) / 2 ^ 8) / 2 ^ 4) / 2 ^ 2) / 2 ^ 1) = 0 ∨ (((((v / 2 ^ 16) / 2 ^ 8) / 2 ^ 4) / 2 ^ 2) / 2 ^ 1) = 1 by omega) with e9 | e9 <;> rw [e9] <;> simp only [Nat.reduceSub, Nat.sub_zero] <;> omega⟩) (by omega) (by omega) dJ20_numberOfLeadingZeros_78
    · exact absurd ((nI_ltI (by omega) (by omega)).2 (show 0 < v by omega)) (show ¬ nI 0 < nI v from c_1)
  · have hng := nI_big hb9 h2
    refine lv_iload_n hx hb dJ20_numberOfLeadingZeros_0 rfl (lv_at hl 0 rfl) ?_
    refine lv_if_gt (tgt := 15) hx hb dJ20_numberOfLeadingZeros_1 (by decide) (fun c_17 => ?_) (fun c_17 => ?_)
    · exact absurd c_17 (fun q => absurd hng (Int32.not_lt.2 (Int32.le_of_lt q)))
    · refine lv_iload_n hx hb dJ20_numberOfLeadingZeros_4 rfl (lv_at hl 0 rfl) ?_
      refine lv_if_ne (tgt := 13) hx hb dJ20_numberOfLeadingZeros_5 (by decide) (fun c_18 => ?_) (fun c_18 => ?_)
      · refine lv_iconst (v := nI (0)) hx hb dJ20_numberOfLeadingZeros_13 (by decide) ?_
        exact z_iret (v := nI (0)) hx hb hr hS (⟨0, rfl, by omega, by omega⟩) (by omega) (by omega) dJ20_numberOfLeadingZeros_14
      · rw [c_18] at hng; exact absurd hng (by decide)
