set_option maxHeartbeats 4000000 in
set_option maxRecDepth 100000 in
theorem mX0_rateFor (l : Launch) (D : va_G) (dA : Nat → ClassId) (ad : Nat → Nat) (sz : Nat) (xx : Nat) (st : Nat) (dq : Nat) (sb : Nat) (f : Nat → Int32) (M : Nat) (i : Int32) (tt : Int32) (hB : InvB f M) : Met l yX0_rateFor (ws_ yX0_rateFor cX0_rateFor 4 (some .int)) ({ frames := 13, cells := 560, slots := 8500, locals := 400 }) (va_Pc [.ref xx, .int i, .int tt] (zP D dA ad (fun q => sz ≤ q) sz (fun H => va_P D vwCl [(xx, .inr (0, [.ref st, .ref dq, .ref sb]))] H ∧ SR D dA (fun q => sz ≤ q) f st H))) (zQi (fun rz H => rz = aRateFor f i tt ∧ va_P D vwCl [] H ∧ va_D (fun q => sz ≤ q) []) (fun q => sz ≤ q)) (560) (8500) (fun q => sz ≤ q) := by
  refine Met.ofW (cc := cX0_rateFor) (maxL := 4) (ret := (some .int)) (by decide) rfl ?_
  intro p e s m args below meth c s₁ B hml hv
  obtain ⟨rfl, hsz, hC, hP⟩ := hv
  have hx := B.exec
  have hb := B.bytes
  have hr := B.returns
  have hts := atoms_spec (ws := ws_ yX0_rateFor cX0_rateFor 4 (some .int)) B.pre
  have hts : ∀ w ∈ lw_all, w.before _ s = true := fun w h => hts w (List.mem_cons_of_mem _ h)
  have hown : s.vm.findClass RX0 = some m.cls := findClass_of_methodNamed B.named
  have hlocks := B.notSynchronized
  subst hsz
  have hK := hC.K
  have hA : ∀ q : Nat, s.heap.size ≤ q → s.heap.size ≤ q := fun _ h => h
  have hS : va_S (fun q => s.heap.size ≤ q) s.heap s.heap [] := va_S.rf
  obtain ⟨hZ, hP2⟩ := hP
  have hP : va_P D vwCl [] s.heap := va_Pnil
  have hZ : zFz D (fun q => s.heap.size ≤ q) [(xx, .inr (0, [.ref st, .ref dq, .ref sb]))] s.heap := zFz_ro hZ
  have hD : va_D (fun q => s.heap.size ≤ q) [] := va_Dnil
  have hl := lv_entry ([.ref xx, .int i, .int tt]) (n := 4) (Nat.le_of_ble_eq_true rfl)
  rw [lg_entry_eq]
  generalize (lg_sl ([.ref xx, .int i, .int tt]) ++ List.replicate (4 - (lg_sl ([.ref xx, .int i, .int tt])).length) Slot.unset).toArray = ls at hl ⊢
  have hl : lv_has ls 4 [(0, .ref xx), (1, .int i), (2, .int tt)] := hl
  obtain ⟨jo, slo, sao, seo, alo, mco, aeo, h, t0, c0, d0, e0, W0, t1, c1, d1, e1, W1, hZS, hP2, hh0, hh1, hW0, hW1, hgp0, hgp1⟩ := hP2
  have hI := hB.a
  have hn9 := hI.2.1
  obtain ⟨qa0, qb0, qc0, qd0⟩ := InvA_ap hI (b := 0) (by omega)
  obtain ⟨qa1, qb1, qc1, qd1⟩ := InvA_ap hI (b := 1) (by omega)
  obtain ⟨hac0, ha0⟩ := hB.ac (b := 0) (by omega)
  obtain ⟨hac1, ha1⟩ := hB.ac (b := 1) (by omega)
  have hZ : zFz D (fun q => s.heap.size ≤ q) [(xx, .inr (0, [.ref st, .ref dq, .ref sb])), (st, .inr (1, [.ref jo, .ref slo, .ref sao, .ref seo, .int (f 1), .int (f 2), .int (f 3), .int (f 4), .int (f 5), .int (f 6)])), (jo, .inr (2, [.ref alo])), (alo, .inr (9, [.int mco, .ref aeo, .int (nI (rN f))])), (slo, .inl (dA 0, 3, .inl (slF f))), (sao, .inl (dA 4, 2, .inr (.inr (.inr (.inr h))))), (seo, .inl (dA 0, 2, .inl (seF f))), (t0, .inr (3, [.int (nI (rcN f 0)), .int (nI (apN f 0)), .ref c0, .int (nI (acN f 0))])), (c0, .inr (10, [.ref d0, .int (nI (uOf W0)), .int e0])), (d0, .inl (dA 1, 2, .inr (.inl (lwd W0)))), (t1, .inr (3, [.int (nI (rcN f 1)), .int (nI (apN f 1)), .ref c1, .int (nI (acN f 1))])), (c1, .inr (10, [.ref d1, .int (nI (uOf W1)), .int e1])), (d1, .inl (dA 1, 2, .inr (.inl (lwd W1))))] s.heap := zFz_app hZ hZS
  refine lv_iload_n hx hb dX0_rateFor_0 rfl (lv_at hl 1 rfl) ?_
  refine z_cSi (As := [.int i]) (rest := []) ⟨hx, hb, hml, hown, hts⟩ (mX0_isStandby l D dA ad s.heap.size i) (va_cwS 1 hts (lw_S q542 q543 q54 q544) rfl rfl rfl (by decide +kernel) ⟨Nat.le_of_ble_eq_true rfl, Nat.le_of_ble_eq_true rfl⟩) hC hS (fun _ h => hA _ (Nat.le_trans hS.1 h)) trivial rfl rfl hl.1 (Nat.le_of_ble_eq_true rfl) dX0_rateFor_1 ⟨by first | exact Nat.le_of_ble_eq_true rfl | (show _ ≤ _; simp only [headSpec]; omega), by first | exact Nat.le_of_ble_eq_true rfl | (show _ ≤ _; simp only [headSpec]; omega)⟩ (fun r_1 H locs hQ hF hS => ?_)
  have hP : va_P D vwCl [] H := va_Pnil
  obtain rfl : bI (nI 0 ≤ i ∧ i ≤ nI 1) = r_1 := hQ.symm
  refine lv_if_eq (tgt := 19) hx hb dX0_rateFor_4 (by decide) (fun c_2 => ?_) (fun c_2 => ?_)
  · have c_2 := bI_0.1 c_2
    refine lv_ldc (v := (-1000001)) hx hb hown (hts _ q592) dX0_rateFor_19 ?_
    exact z_iret (v := (-1000001)) hx hb hr hS (⟨by unfold aRateFor; rw [if_neg c_2], va_Pnil, va_Dnil⟩) (by omega) (by omega) dX0_rateFor_21
  · have c_2 := bI_1.1 c_2
    refine lv_iload_n hx hb dX0_rateFor_7 rfl (lv_at hl 2 rfl) ?_
    refine lv_i2l (v := (tt).toInt64) hx hb dX0_rateFor_8 (rfl) ?_
    refine lv_lconst (v := lN (1)) hx hb dX0_rateFor_9 (by decide) ?_
    refine lv_ldc2 (v := lN (99)) hx hb hown (hts _ q456) dX0_rateFor_10 ?_
    refine z_cSi (As := [.long ((tt).toInt64), .long (lN (1)), .long (lN (99))]) (rest := []) ⟨hx, hb, hml, hown, hts⟩ (mX0_isBetween l D dA ad H.size ((tt).toInt64) (lN (1)) (lN (99))) (va_cwS 3 hts (lw_S q457 q458 q54 q459) rfl rfl rfl (by decide +kernel) ⟨Nat.le_of_ble_eq_true rfl, Nat.le_of_ble_eq_true rfl⟩) hC hS (fun _ h => hA _ (Nat.le_trans hS.1 h)) trivial rfl rfl hl.1 (Nat.le_of_ble_eq_true rfl) dX0_rateFor_13 ⟨by first | exact Nat.le_of_ble_eq_true rfl | (show _ ≤ _; simp only [headSpec]; omega), by first | exact Nat.le_of_ble_eq_true rfl | (show _ ≤ _; simp only [headSpec]; omega)⟩ (fun r_3 H locs hQ hF hS => ?_)
    have hP : va_P D vwCl [] H := va_Pnil
    obtain rfl : bI ((lN (1)) ≤ ((tt).toInt64) ∧ ((tt).toInt64) ≤ (lN (99))) = r_3 := hQ.symm
    refine lv_tope (y := bI (nI 1 ≤ tt ∧ tt ≤ nI 99)) (btw_ok (by decide) (by decide)) ?_
    refine lv_if_ne (tgt := 22) hx hb dX0_rateFor_16 (by decide) (fun c_4 => ?_) (fun c_4 => ?_)
    · have c_4 := bI_1.1 c_4
      obtain ⟨t, ht, rfl⟩ := zr_of (k := tt) (N := 99) ⟨Int32.le_trans (nI_le (by omega) (by omega)) c_4.1, c_4.2⟩ (by decide)
      obtain ⟨j9, hj9, rfl⟩ := zr_of (k := i) (N := 1) c_2 (by decide)
      rcases (show j9 = 0 ∨ j9 = 1 by omega) with rfl | rfl
      · refine lv_aload_n hx hb dX0_rateFor_22 rfl (lv_at hl 0 rfl) ?_
        refine va_get (D := D) (ci := 0) (v := .ref st) (C := RX0) (T := TX0) (N := 3) hx hb hts in_X0 hown hK (hZ.at hS) 0 rfl rfl 0 (by decide) (hts _ q284) (fun _ h9 => h9) rfl dX0_rateFor_23 ?_
        refine va_getN (D := D) (ci := 1) (v := .ref sao) (C := RX1) (T := TX1) (N := 10) hx hb hts in_X1 hown hK (hZ.at hS) 1 rfl rfl 2 (by decide) (Cx.nF hC (List.mem_of_getElem? (i := 7) rfl)) (fun _ h9 => h9) rfl dX0_rateFor_26 ?_
        refine lv_iload_n hx hb dX0_rateFor_29 rfl (lv_at hl 1 rfl) ?_
        refine va_aldq hx hb hK (hZ.at hS) 5 4 rfl rfl (vp_in_nI (by omega) (by omega)) dX0_rateFor_30 ?_
        refine lv_topv (y := .ref t0) (by rw [nI_clamp (by omega)]; rw [hh0]; rfl) ?_
        refine va_getN (D := D) (ci := 3) (v := .int (nI (acN f 0))) (C := RX3) (T := TX3) (N := 4) hx hb hts in_X3 hown hK (hZ.at hS) 7 rfl rfl 3 (by decide) (Cx.nF hC (List.mem_of_getElem? (i := 4) rfl)) (fun _ h9 => h9) rfl dX0_rateFor_31 ?_
        refine lv_if_eq (tgt := 40) hx hb dX0_rateFor_34 (by decide) (fun c_5 => ?_) (fun c_5 => ?_)
        · have c_5 := (nI_eq (by omega) (by omega)).1 (show nI _ = nI 0 from c_5)
          refine lv_iconst (v := nI (1)) hx hb dX0_rateFor_40 (by decide) ?_
          refine lv_istore_n (lv' := [(3, .int (nI (1))), (0, .ref xx), (1, .int (nI (0))), (2, .int (nI (t)))]) hx hb dX0_rateFor_41 rfl hl (by decide) rfl (fun ls hl => ?_)
          refine z_loopC (σ := Nat) (fun x => 26 * x) (fun x => 400 * x) (fun x => 21 - x) (fun x H locs ls => va_S (fun q => s.heap.size ≤ q) s.heap H locs ∧ lv_has ls 4 [(0, .ref xx), (1, .int (nI (0))), (2, .int (nI (t))), (3, .int (nI (x)))] ∧ 1 ≤ x ∧ x ≤ 21 ∧ rateN f 0 (goalN f 0) t 20 1 = rateN f 0 (goalN f 0) t (21 - x) x) 1 (by decide) (by decide) ⟨hS, (lv_sub (l' := [(0, .ref xx), (1, .int (nI (0))), (2, .int (nI (t))), (3, .int (nI (1)))]) hl [1, 2, 3, 0] rfl), by omega, by omega, rfl⟩ ?_
          intro x H locs ls ⟨hS, hl, hx1, hx2, hx3⟩ ih
          have hP : va_P D vwCl [] H := va_Pnil
          have hD : va_D (fun q => s.heap.size ≤ q) [] := va_Dnil
          refine lv_iload_n hx hb dX0_rateFor_42 rfl (lv_at hl 3 rfl) ?_
          refine lv_bipush (v := nI (20)) hx hb dX0_rateFor_43 (by decide) ?_
          refine lv_icmp_gt (tgt := 64) hx hb dX0_rateFor_45 (by decide) (fun c_6 => ?_) (fun c_6 => ?_)
          · have c_6 := (nI_ltI (by omega) (by omega)).1 c_6
            refine lv_iload_n hx hb dX0_rateFor_64 rfl (lv_at hl 3 rfl) ?_
            refine lv_bipush (v := nI (20)) hx hb dX0_rateFor_65 (by decide) ?_
            refine lv_icmp_gt (tgt := 74) hx hb dX0_rateFor_67 (by decide) (fun c_7 => ?_) (fun c_7 => ?_)
            · have c_7 := (nI_ltI (by omega) (by omega)).1 c_7
              refine lv_ldc (v := (-1000004)) hx hb hown (hts _ q962) dX0_rateFor_74 ?_
              exact z_iret (v := (-1000004)) hx hb hr hS (⟨by unfold aRateFor; rw [if_pos c_2, if_pos c_4]; simp only [show (nI 0).toNatClampNeg = 0 from nI_clamp (by decide), show (nI t).toNatClampNeg = t from nI_clamp (by omega)]; rw [if_neg (fun q => by have := nI_inj (by omega) (by omega) ((hac0.symm.trans q)); omega), hx3, show 21 - x = 0 by omega] <;> rfl, va_Pnil, va_Dnil⟩) (by omega) (by omega) dX0_rateFor_76
            · have c_7 := mt (nI_ltI (by omega) (by omega)).2 c_7
              omega
          · have c_6 := mt (nI_ltI (by omega) (by omega)).2 c_6
            refine lv_aload_n hx hb dX0_rateFor_48 rfl (lv_at hl 0 rfl) ?_
            refine lv_iload_n hx hb dX0_rateFor_49 rfl (lv_at hl 1 rfl) ?_
            refine lv_iload_n hx hb dX0_rateFor_50 rfl (lv_at hl 3 rfl) ?_
            refine lv_iload_n hx hb dX0_rateFor_51 rfl (lv_at hl 2 rfl) ?_
            have hSo := hS
            refine z_cVi (As := [.int (nI (0)), .int (nI (x)), .int (nI (t))]) (rest := []) ⟨hx, hb, hml, hown, hts⟩ (mX0_wouldDo0 l D dA ad H.size xx st dq sb f M x t (hB) (by omega) (by omega)) (cwV 3 hts (lw_V q1030 q1032 qs21 q54 q1033) rfl rfl rfl (by decide +kernel) ⟨Nat.le_of_ble_eq_true rfl, Nat.le_of_ble_eq_true rfl⟩) hC hS (fun _ h => hA _ (Nat.le_trans hS.1 h)) ⟨((hZ.at hS).sub (ws' := [(xx, .inr (0, [.ref st, .ref dq, .ref sb]))]) [0] rfl), (SR.kept ⟨jo, slo, sao, seo, alo, mco, aeo, h, t0, c0, d0, e0, W0, t1, c1, d1, e1, W1, hZS, hP2, hh0, hh1, hW0, hW1, hgp0, hgp1⟩ hS).ro⟩ (va_recv hK (hZ.at hS) (ci := 0) (q0 := 0) rfl rfl) rfl rfl hl.1 (Nat.le_of_ble_eq_true rfl) dX0_rateFor_52 ⟨by first | exact Nat.le_of_ble_eq_true rfl | (show _ ≤ _; simp only [headSpec]; omega), by first | exact Nat.le_of_ble_eq_true rfl | (show _ ≤ _; simp only [headSpec]; omega)⟩ (fun r_8 H locs hQ hF hS => ?_)
            obtain ⟨hQ, hP1, hD1⟩ := hQ
            obtain ⟨hP, hD⟩ := z_addnew (hA_up hA hSo) hP hD hF hP1 hD1
            have hP : va_P D vwCl [] H := hP
            have hD : va_D (fun q => s.heap.size ≤ q) [] := hD
            obtain rfl : bI (0 ≤ untilN f 0 (goalN f 0) x (t + 1) (apN f 0) 0) = r_8 := hQ.symm
            refine lv_if_ne (tgt := 64) hx hb dX0_rateFor_55 (by decide) (fun c_9 => ?_) (fun c_9 => ?_)
            · have c_9 := bI_1.1 c_9
              refine lv_iload_n hx hb dX0_rateFor_64 rfl (lv_at hl 3 rfl) ?_
              refine lv_bipush (v := nI (20)) hx hb dX0_rateFor_65 (by decide) ?_
              refine lv_icmp_gt (tgt := 74) hx hb dX0_rateFor_67 (by decide) (fun c_10 => ?_) (fun c_10 => ?_)
              · have c_10 := (nI_ltI (by omega) (by omega)).1 c_10
                omega
              · have c_10 := mt (nI_ltI (by omega) (by omega)).2 c_10
                refine lv_iload_n hx hb dX0_rateFor_70 rfl (lv_at hl 3 rfl) ?_
                refine lv_goto (tgt := 76) hx hb dX0_rateFor_71 (by decide) ?_
                exact z_iret (v := nI (x)) hx hb hr hS (⟨by unfold aRateFor; rw [if_pos c_2, if_pos c_4]; simp only [show (nI 0).toNatClampNeg = 0 from nI_clamp (by decide), show (nI t).toNatClampNeg = t from nI_clamp (by omega)]; rw [if_neg (fun q => by have := nI_inj (by omega) (by omega) ((hac0.symm.trans q)); omega), hx3, show 21 - x = (20 - x) + 1 by omega, rateN_t c_9], va_Pnil, va_Dnil⟩) (by omega) (by omega) dX0_rateFor_76
            · have c_9 := bI_0.1 c_9
              refine lv_iinc (v := nI (x + 1)) (lv' := [(3, .int (nI (x + 1))), (0, .ref xx), (1, .int (nI (0))), (2, .int (nI (t)))]) hx hb dX0_rateFor_58 hl (k := 3) rfl (nI_add _ _) (by decide) rfl (fun ls hl => ?_)
              refine lv_goto (tgt := 42) hx hb dX0_rateFor_61 (by decide) ?_
              exact ih (x + 1) H locs ls _ _ ⟨hS, (lv_sub (l' := [(0, .ref xx), (1, .int (nI (0))), (2, .int (nI (t))), (3, .int (nI ((x + 1))))]) hl [1, 2, 3, 0] rfl), by omega, by omega, by rw [hx3, show 21 - x = (20 - x) + 1 by omega, rateN_f c_9, show 21 - (x + 1) = 20 - x by omega]⟩ (by omega) (by omega) (by omega)
        · have c_5 := mt (nI_eq (by omega) (by omega)).2 (show ¬ nI _ = nI 0 from c_5)
          refine lv_ldc (v := (-1000002)) hx hb hown (hts _ q947) dX0_rateFor_37 ?_
          exact z_iret (v := (-1000002)) hx hb hr hS (⟨by unfold aRateFor; rw [if_pos c_2, if_pos c_4, nI_clamp (by omega), if_pos (by rw [hac0, show acN f 0 = 1 by omega])], va_Pnil, va_Dnil⟩) (by omega) (by omega) dX0_rateFor_39
      · refine lv_aload_n hx hb dX0_rateFor_22 rfl (lv_at hl 0 rfl) ?_
        refine va_get (D := D) (ci := 0) (v := .ref st) (C := RX0) (T := TX0) (N := 3) hx hb hts in_X0 hown hK (hZ.at hS) 0 rfl rfl 0 (by decide) (hts _ q284) (fun _ h9 => h9) rfl dX0_rateFor_23 ?_
        refine va_getN (D := D) (ci := 1) (v := .ref sao) (C := RX1) (T := TX1) (N := 10) hx hb hts in_X1 hown hK (hZ.at hS) 1 rfl rfl 2 (by decide) (Cx.nF hC (List.mem_of_getElem? (i := 7) rfl)) (fun _ h9 => h9) rfl dX0_rateFor_26 ?_
        refine lv_iload_n hx hb dX0_rateFor_29 rfl (lv_at hl 1 rfl) ?_
        refine va_aldq hx hb hK (hZ.at hS) 5 4 rfl rfl (vp_in_nI (by omega) (by omega)) dX0_rateFor_30 ?_
        refine lv_topv (y := .ref t1) (by rw [nI_clamp (by omega)]; rw [hh1]; rfl) ?_
        refine va_getN (D := D) (ci := 3) (v := .int (nI (acN f 1))) (C := RX3) (T := TX3) (N := 4) hx hb hts in_X3 hown hK (hZ.at hS) 10 rfl rfl 3 (by decide) (Cx.nF hC (List.mem_of_getElem? (i := 4) rfl)) (fun _ h9 => h9) rfl dX0_rateFor_31 ?_
        refine lv_if_eq (tgt := 40) hx hb dX0_rateFor_34 (by decide) (fun c_11 => ?_) (fun c_11 => ?_)
        · have c_11 := (nI_eq (by omega) (by omega)).1 (show nI _ = nI 0 from c_11)
          refine lv_iconst (v := nI (1)) hx hb dX0_rateFor_40 (by decide) ?_
          refine lv_istore_n (lv' := [(3, .int (nI (1))), (0, .ref xx), (1, .int (nI (1))), (2, .int (nI (t)))]) hx hb dX0_rateFor_41 rfl hl (by decide) rfl (fun ls hl => ?_)
          refine z_loopC (σ := Nat) (fun x => 26 * x) (fun x => 400 * x) (fun x => 21 - x) (fun x H locs ls => va_S (fun q => s.heap.size ≤ q) s.heap H locs ∧ lv_has ls 4 [(0, .ref xx), (1, .int (nI (1))), (2, .int (nI (t))), (3, .int (nI (x)))] ∧ 1 ≤ x ∧ x ≤ 21 ∧ rateN f 1 (goalN f 1) t 20 1 = rateN f 1 (goalN f 1) t (21 - x) x) 1 (by decide) (by decide) ⟨hS, (lv_sub (l' := [(0, .ref xx), (1, .int (nI (1))), (2, .int (nI (t))), (3, .int (nI (1)))]) hl [1, 2, 3, 0] rfl), by omega, by omega, rfl⟩ ?_
          intro x H locs ls ⟨hS, hl, hx1, hx2, hx3⟩ ih
          have hP : va_P D vwCl [] H := va_Pnil
          have hD : va_D (fun q => s.heap.size ≤ q) [] := va_Dnil
          refine lv_iload_n hx hb dX0_rateFor_42 rfl (lv_at hl 3 rfl) ?_
          refine lv_bipush (v := nI (20)) hx hb dX0_rateFor_43 (by decide) ?_
          refine lv_icmp_gt (tgt := 64) hx hb dX0_rateFor_45 (by decide) (fun c_12 => ?_) (fun c_12 => ?_)
          · have c_12 := (nI_ltI (by omega) (by omega)).1 c_12
            refine lv_iload_n hx hb dX0_rateFor_64 rfl (lv_at hl 3 rfl) ?_
            refine lv_bipush (v := nI (20)) hx hb dX0_rateFor_65 (by decide) ?_
            refine lv_icmp_gt (tgt := 74) hx hb dX0_rateFor_67 (by decide) (fun c_13 => ?_) (fun c_13 => ?_)
            · have c_13 := (nI_ltI (by omega) (by omega)).1 c_13
              refine lv_ldc (v := (-1000004)) hx hb hown (hts _ q962) dX0_rateFor_74 ?_
              exact z_iret (v := (-1000004)) hx hb hr hS (⟨by unfold aRateFor; rw [if_pos c_2, if_pos c_4]; simp only [show (nI 1).toNatClampNeg = 1 from nI_clamp (by decide), show (nI t).toNatClampNeg = t from nI_clamp (by omega)]; rw [if_neg (fun q => by have := nI_inj (by omega) (by omega) ((hac1.symm.trans q)); omega), hx3, show 21 - x = 0 by omega] <;> rfl, va_Pnil, va_Dnil⟩) (by omega) (by omega) dX0_rateFor_76
            · have c_13 := mt (nI_ltI (by omega) (by omega)).2 c_13
              omega
          · have c_12 := mt (nI_ltI (by omega) (by omega)).2 c_12
            refine lv_aload_n hx hb dX0_rateFor_48 rfl (lv_at hl 0 rfl) ?_
            refine lv_iload_n hx hb dX0_rateFor_49 rfl (lv_at hl 1 rfl) ?_
            refine lv_iload_n hx hb dX0_rateFor_50 rfl (lv_at hl 3 rfl) ?_
            refine lv_iload_n hx hb dX0_rateFor_51 rfl (lv_at hl 2 rfl) ?_
            have hSo := hS
            refine z_cVi (As := [.int (nI (1)), .int (nI (x)), .int (nI (t))]) (rest := []) ⟨hx, hb, hml, hown, hts⟩ (mX0_wouldDo1 l D dA ad H.size xx st dq sb f M x t (hB) (by omega) (by omega)) (cwV 3 hts (lw_V q1030 q1032 qs21 q54 q1033) rfl rfl rfl (by decide +kernel) ⟨Nat.le_of_ble_eq_true rfl, Nat.le_of_ble_eq_true rfl⟩) hC hS (fun _ h => hA _ (Nat.le_trans hS.1 h)) ⟨((hZ.at hS).sub (ws' := [(xx, .inr (0, [.ref st, .ref dq, .ref sb]))]) [0] rfl), (SR.kept ⟨jo, slo, sao, seo, alo, mco, aeo, h, t0, c0, d0, e0, W0, t1, c1, d1, e1, W1, hZS, hP2, hh0, hh1, hW0, hW1, hgp0, hgp1⟩ hS).ro⟩ (va_recv hK (hZ.at hS) (ci := 0) (q0 := 0) rfl rfl) rfl rfl hl.1 (Nat.le_of_ble_eq_true rfl) dX0_rateFor_52 ⟨by first | exact Nat.le_of_ble_eq_true rfl | (show _ ≤ _; simp only [headSpec]; omega), by first | exact Nat.le_of_ble_eq_true rfl | (show _ ≤ _; simp only [headSpec]; omega)⟩ (fun r_14 H locs hQ hF hS => ?_)
            obtain ⟨hQ, hP1, hD1⟩ := hQ
            obtain ⟨hP, hD⟩ := z_addnew (hA_up hA hSo) hP hD hF hP1 hD1
            have hP : va_P D vwCl [] H := hP
            have hD : va_D (fun q => s.heap.size ≤ q) [] := hD
            obtain rfl : bI (0 ≤ untilN f 1 (goalN f 1) x (t + 1) (apN f 1) 0) = r_14 := hQ.symm
            refine lv_if_ne (tgt := 64) hx hb dX0_rateFor_55 (by decide) (fun c_15 => ?_) (fun c_15 => ?_)
            · have c_15 := bI_1.1 c_15
              refine lv_iload_n hx hb dX0_rateFor_64 rfl (lv_at hl 3 rfl) ?_
              refine lv_bipush (v := nI (20)) hx hb dX0_rateFor_65 (by decide) ?_
              refine lv_icmp_gt (tgt := 74) hx hb dX0_rateFor_67 (by decide) (fun c_16 => ?_) (fun c_16 => ?_)
              · have c_16 := (nI_ltI (by omega) (by omega)).1 c_16
                omega
              · have c_16 := mt (nI_ltI (by omega) (by omega)).2 c_16
                refine lv_iload_n hx hb dX0_rateFor_70 rfl (lv_at hl 3 rfl) ?_
                refine lv_goto (tgt := 76) hx hb dX0_rateFor_71 (by decide) ?_
                exact z_iret (v := nI (x)) hx hb hr hS (⟨by unfold aRateFor; rw [if_pos c_2, if_pos c_4]; simp only [show (nI 1).toNatClampNeg = 1 from nI_clamp (by decide), show (nI t).toNatClampNeg = t from nI_clamp (by omega)]; rw [if_neg (fun q => by have := nI_inj (by omega) (by omega) ((hac1.symm.trans q)); omega), hx3, show 21 - x = (20 - x) + 1 by omega, rateN_t c_15], va_Pnil, va_Dnil⟩) (by omega) (by omega) dX0_rateFor_76
            · have c_15 := bI_0.1 c_15
              refine lv_iinc (v := nI (x + 1)) (lv' := [(3, .int (nI (x + 1))), (0, .ref xx), (1, .int (nI (1))), (2, .int (nI (t)))]) hx hb dX0_rateFor_58 hl (k := 3) rfl (nI_add _ _) (by decide) rfl (fun ls hl => ?_)
              refine lv_goto (tgt := 42) hx hb dX0_rateFor_61 (by decide) ?_
              exact ih (x + 1) H locs ls _ _ ⟨hS, (lv_sub (l' := [(0, .ref xx), (1, .int (nI (1))), (2, .int (nI (t))), (3, .int (nI ((x + 1))))]) hl [1, 2, 3, 0] rfl), by omega, by omega, by rw [hx3, show 21 - x = (20 - x) + 1 by omega, rateN_f c_15, show 21 - (x + 1) = 20 - x by omega]⟩ (by omega) (by omega) (by omega)
        · have c_11 := mt (nI_eq (by omega) (by omega)).2 (show ¬ nI _ = nI 0 from c_11)
          refine lv_ldc (v := (-1000002)) hx hb hown (hts _ q947) dX0_rateFor_37 ?_
          exact z_iret (v := (-1000002)) hx hb hr hS (⟨by unfold aRateFor; rw [if_pos c_2, if_pos c_4, nI_clamp (by omega), if_pos (by rw [hac1, show acN f 1 = 1 by omega])], va_Pnil, va_Dnil⟩) (by omega) (by omega) dX0_rateFor_39
    · have c_4 := bI_0.1 c_4
      refine lv_ldc (v := (-1000001)) hx hb hown (hts _ q592) dX0_rateFor_19 ?_
      exact z_iret (v := (-1000001)) hx hb hr hS (⟨by unfold aRateFor; rw [if_pos c_2, if_neg c_4], va_Pnil, va_Dnil⟩) (by omega) (by omega) dX0_rateFor_21
