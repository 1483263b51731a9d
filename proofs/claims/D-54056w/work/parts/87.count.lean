set_option maxHeartbeats 4000000 in
set_option maxRecDepth 100000 in
theorem mX0_standbyOf (l : Launch) (D : va_G) (dA : Nat → ClassId) (ad : Nat → Nat) (sz : Nat) (xx : Nat) (st : Nat) (dq : Nat) (sb : Nat) (f : Nat → Int32) (M : Nat) (i : Int32) (wh : Int32) (hB : InvB f M) : Met l yX0_standbyOf (ws_ yX0_standbyOf cX0_standbyOf 4 (some .int)) ({ frames := 10, cells := 0, slots := 0, locals := 310 }) (va_Pc [.ref xx, .int i, .int wh] (zP D dA ad (fun q => sz ≤ q) sz (fun H => va_P D vwCl [(xx, .inr (0, [.ref st, .ref dq, .ref sb]))] H ∧ SR D dA (fun q => sz ≤ q) f st H))) (zQi (fun rz H => rz = aStandbyOf f i wh) (fun q => sz ≤ q)) (0) (0) (fun q => sz ≤ q) := by
  refine Met.ofW (cc := cX0_standbyOf) (maxL := 4) (ret := (some .int)) (by decide) rfl ?_
  intro p e s m args below meth c s₁ B hml hv
  obtain ⟨rfl, hsz, hC, hP⟩ := hv
  have hx := B.exec
  have hb := B.bytes
  have hr := B.returns
  have hts := atoms_spec (ws := ws_ yX0_standbyOf cX0_standbyOf 4 (some .int)) B.pre
  have hts : ∀ w ∈ lw_all, w.before _ s = true := fun w h => hts w (List.mem_cons_of_mem _ h)
  have hown : s.vm.findClass RX0 = some m.cls := findClass_of_methodNamed B.named
  have hlocks := B.notSynchronized
  subst hsz
  have hK := hC.K
  have hA : ∀ q : Nat, s.heap.size ≤ q → s.heap.size ≤ q := fun _ h => h
  have hS : va_S (fun q => s.heap.size ≤ q) s.heap s.heap [] := va_S.rf
  obtain ⟨hP, hP2⟩ := hP
  have hP : va_P D vwCl [(xx, .inr (0, [.ref st, .ref dq, .ref sb]))] s.heap := hP
  have hl := lv_entry ([.ref xx, .int i, .int wh]) (n := 4) (Nat.le_of_ble_eq_true rfl)
  rw [lg_entry_eq]
  generalize (lg_sl ([.ref xx, .int i, .int wh]) ++ List.replicate (4 - (lg_sl ([.ref xx, .int i, .int wh])).length) Slot.unset).toArray = ls at hl ⊢
  have hl : lv_has ls 4 [(0, .ref xx), (1, .int i), (2, .int wh)] := hl
  obtain ⟨jo, slo, sao, seo, alo, mco, aeo, h, t0, c0, d0, e0, W0, t1, c1, d1, e1, W1, hZS, hP2, hh0, hh1, hW0, hW1, hgp0, hgp1⟩ := hP2
  have hI := hB.a
  have hn9 := hI.2.1
  obtain ⟨qa0, qb0, qc0, qd0⟩ := InvA_ap hI (b := 0) (by omega)
  obtain ⟨qa1, qb1, qc1, qd1⟩ := InvA_ap hI (b := 1) (by omega)
  obtain ⟨hac0, ha0⟩ := hB.ac (b := 0) (by omega)
  obtain ⟨hac1, ha1⟩ := hB.ac (b := 1) (by omega)
  have hP := hP.app hZS.1
  have hP : va_P D vwCl [(xx, .inr (0, [.ref st, .ref dq, .ref sb])), (st, .inr (1, [.ref jo, .ref slo, .ref sao, .ref seo, .int (f 1), .int (f 2), .int (f 3), .int (f 4), .int (f 5), .int (f 6)])), (jo, .inr (2, [.ref alo])), (alo, .inr (9, [.int mco, .ref aeo, .int (nI (rN f))])), (slo, .inl (dA 0, 3, .inl (slF f))), (sao, .inl (dA 4, 2, .inr (.inr (.inr (.inr h))))), (seo, .inl (dA 0, 2, .inl (seF f))), (t0, .inr (3, [.int (nI (rcN f 0)), .int (nI (apN f 0)), .ref c0, .int (nI (acN f 0))])), (c0, .inr (10, [.ref d0, .int (nI (uOf W0)), .int e0])), (d0, .inl (dA 1, 2, .inr (.inl (lwd W0)))), (t1, .inr (3, [.int (nI (rcN f 1)), .int (nI (apN f 1)), .ref c1, .int (nI (acN f 1))])), (c1, .inr (10, [.ref d1, .int (nI (uOf W1)), .int e1])), (d1, .inl (dA 1, 2, .inr (.inl (lwd W1))))] s.heap := hP
  refine lv_iload_n hx hb dX0_standbyOf_0 rfl (lv_at hl 1 rfl) ?_
  refine z_cSi (As := [.int i]) (rest := []) ⟨hx, hb, hml, hown, hts⟩ (mX0_isStandby l D dA ad s.heap.size i) (va_cwS 1 hts (lw_S q542 q543 q54 q544) rfl rfl rfl (by decide +kernel) ⟨Nat.le_of_ble_eq_true rfl, Nat.le_of_ble_eq_true rfl⟩) hC hS (fun _ h => hA _ (Nat.le_trans hS.1 h)) trivial rfl rfl hl.1 (Nat.le_of_ble_eq_true rfl) dX0_standbyOf_1 ⟨Nat.le_of_ble_eq_true rfl, Nat.le_of_ble_eq_true rfl⟩ (fun r_1 H locs hQ hF hS => ?_)
  have hP := va_P.ro hF hP
  obtain rfl : bI (nI 0 ≤ i ∧ i ≤ nI 1) = r_1 := hQ.symm
  refine lv_if_eq (tgt := 19) hx hb dX0_standbyOf_4 (by decide) (fun c_2 => ?_) (fun c_2 => ?_)
  · have c_2 := bI_0.1 c_2
    refine lv_ldc (v := (-1000001)) hx hb hown (hts _ q592) dX0_standbyOf_19 ?_
    exact z_iret (v := (-1000001)) hx hb hr hS (by unfold aStandbyOf; rw [if_neg c_2]) (by omega) (by omega) dX0_standbyOf_21
  · have c_2 := bI_1.1 c_2
    refine lv_iload_n hx hb dX0_standbyOf_7 rfl (lv_at hl 2 rfl) ?_
    refine lv_i2l (v := (wh).toInt64) hx hb dX0_standbyOf_8 (rfl) ?_
    refine lv_lconst (v := lN (0)) hx hb dX0_standbyOf_9 (by decide) ?_
    refine lv_ldc2 (v := lN (8)) hx hb hown (hts _ q986) dX0_standbyOf_10 ?_
    refine z_cSi (As := [.long ((wh).toInt64), .long (lN (0)), .long (lN (8))]) (rest := []) ⟨hx, hb, hml, hown, hts⟩ (mX0_isBetween l D dA ad H.size ((wh).toInt64) (lN (0)) (lN (8))) (va_cwS 3 hts (lw_S q457 q458 q54 q459) rfl rfl rfl (by decide +kernel) ⟨Nat.le_of_ble_eq_true rfl, Nat.le_of_ble_eq_true rfl⟩) hC hS (fun _ h => hA _ (Nat.le_trans hS.1 h)) trivial rfl rfl hl.1 (Nat.le_of_ble_eq_true rfl) dX0_standbyOf_13 ⟨Nat.le_of_ble_eq_true rfl, Nat.le_of_ble_eq_true rfl⟩ (fun r_3 H locs hQ hF hS => ?_)
    have hP := va_P.ro hF hP
    obtain rfl : bI ((lN (0)) ≤ ((wh).toInt64) ∧ ((wh).toInt64) ≤ (lN (8))) = r_3 := hQ.symm
    refine lv_tope (y := bI (nI 0 ≤ wh ∧ wh ≤ nI 8)) (btw_ok (by decide) (by decide)) ?_
    refine lv_if_ne (tgt := 22) hx hb dX0_standbyOf_16 (by decide) (fun c_4 => ?_) (fun c_4 => ?_)
    · have c_4 := bI_1.1 c_4
      obtain ⟨j9, hj9, rfl⟩ := zr_of (k := i) (N := 1) c_2 (by decide)
      rcases (show j9 = 0 ∨ j9 = 1 by omega) with rfl | rfl
      · refine lv_aload_n hx hb dX0_standbyOf_22 rfl (lv_at hl 0 rfl) ?_
        refine va_get (D := D) (ci := 0) (v := .ref st) (C := RX0) (T := TX0) (N := 3) hx hb hts in_X0 hown hK hP 0 rfl rfl 0 (by decide) (hts _ q284) (fun _ h9 => h9) rfl dX0_standbyOf_23 ?_
        refine va_getN (D := D) (ci := 1) (v := .ref sao) (C := RX1) (T := TX1) (N := 10) hx hb hts in_X1 hown hK hP 1 rfl rfl 2 (by decide) (Cx.nF hC (List.mem_of_getElem? (i := 7) rfl)) (fun _ h9 => h9) rfl dX0_standbyOf_26 ?_
        refine lv_iload_n hx hb dX0_standbyOf_29 rfl (lv_at hl 1 rfl) ?_
        refine va_aldq hx hb hK hP 5 4 rfl rfl (vp_in_nI (by omega) (by omega)) dX0_standbyOf_30 ?_
        refine lv_topv (y := .ref t0) (by rw [nI_clamp (by omega)]; rw [hh0]; rfl) ?_
        refine lv_astore_n (lv' := [(3, .ref t0), (0, .ref xx), (1, .int (nI (0))), (2, .int wh)]) hx hb dX0_standbyOf_31 rfl hl (by decide) rfl (fun ls hl => ?_)
        refine lv_iload_n hx hb dX0_standbyOf_32 rfl (lv_at hl 3 rfl) ?_
        obtain ⟨kw, hkw, rfl⟩ := zr_of (k := wh) (N := 8) c_4 (by decide)
        rcases (show kw = 0 ∨ kw = 1 ∨ kw = 2 ∨ kw = 3 ∨ kw = 4 ∨ kw = 5 ∨ kw = 6 ∨ kw = 7 ∨ kw = 8 by omega) with rfl | rfl | rfl | rfl | rfl | rfl | rfl | rfl | rfl
        · refine lv_tableIn (off := 35) (tgt := 68) hx hb dX0_standbyOf_33 (by decide) (by decide) (by decide) (by decide) ?_
          refine lv_aload_n hx hb dX0_standbyOf_68 rfl (lv_at hl 0 rfl) ?_
          refine va_getN (D := D) (ci := 3) (v := .int (nI (rcN f 0))) (C := RX3) (T := TX3) (N := 4) hx hb hts in_X3 hown hK hP 7 rfl rfl 0 (by decide) (Cx.nF hC (List.mem_of_getElem? (i := 1) rfl)) (fun _ h9 => h9) rfl dX0_standbyOf_69 ?_
          exact z_iret (v := nI (rcN f 0)) hx hb hr hS (by unfold aStandbyOf; rw [if_pos c_2, if_pos c_4]; simp only [show (nI 0).toNatClampNeg = 0 from nI_clamp (by decide), show (nI 0).toNatClampNeg = 0 from nI_clamp (by decide)] <;> exact qa0.symm) (by omega) (by omega) dX0_standbyOf_72
        · refine lv_tableIn (off := 40) (tgt := 73) hx hb dX0_standbyOf_33 (by decide) (by decide) (by decide) (by decide) ?_
          refine lv_aload_n hx hb dX0_standbyOf_73 rfl (lv_at hl 0 rfl) ?_
          refine va_getN (D := D) (ci := 3) (v := .int (nI (apN f 0))) (C := RX3) (T := TX3) (N := 4) hx hb hts in_X3 hown hK hP 7 rfl rfl 1 (by decide) (Cx.nF hC (List.mem_of_getElem? (i := 2) rfl)) (fun _ h9 => h9) rfl dX0_standbyOf_74 ?_
          exact z_iret (v := nI (apN f 0)) hx hb hr hS (by unfold aStandbyOf; rw [if_pos c_2, if_pos c_4]; simp only [show (nI 0).toNatClampNeg = 0 from nI_clamp (by decide), show (nI 1).toNatClampNeg = 1 from nI_clamp (by decide)] <;> exact qb0.symm) (by omega) (by omega) dX0_standbyOf_77
        · refine lv_tableIn (off := 45) (tgt := 78) hx hb dX0_standbyOf_33 (by decide) (by decide) (by decide) (by decide) ?_
          refine lv_aload_n hx hb dX0_standbyOf_78 rfl (lv_at hl 0 rfl) ?_
          refine va_getN (D := D) (ci := 3) (v := .ref c0) (C := RX3) (T := TX3) (N := 4) hx hb hts in_X3 hown hK hP 7 rfl rfl 2 (by decide) (Cx.nF hC (List.mem_of_getElem? (i := 3) rfl)) (fun _ h9 => h9) rfl dX0_standbyOf_79 ?_
          refine z_cVi (As := []) (rest := []) ⟨hx, hb, hml, hown, hts⟩ (mJ3_cardinality l D dA ad H.size c0 d0 e0 W0 (by assumption)) (cwV 0 hts (lw_V q987 q706 q707 q61 q708) rfl rfl rfl (by decide +kernel) ⟨Nat.le_of_ble_eq_true rfl, Nat.le_of_ble_eq_true rfl⟩) hC hS (fun _ h => hA _ (Nat.le_trans hS.1 h)) (hP.sub (ws' := [(c0, .inr (10, [.ref d0, .int (nI (uOf W0)), .int e0])), (d0, .inl (dA 1, 2, .inr (.inl (lwd W0))))]) [8, 9] rfl) (va_recv hK hP (ci := 10) (q0 := 8) rfl rfl) rfl rfl hl.1 (Nat.le_of_ble_eq_true rfl) dX0_standbyOf_82 ⟨Nat.le_of_ble_eq_true rfl, Nat.le_of_ble_eq_true rfl⟩ (fun r_5 H locs hQ hF hS => ?_)
          have hP := va_P.ro hF hP
          obtain rfl : nI (pcN W0) = r_5 := hQ.symm
          exact z_iret (v := nI (pcN W0)) hx hb hr hS (by unfold aStandbyOf; rw [if_pos c_2, if_pos c_4]; simp only [show (nI 0).toNatClampNeg = 0 from nI_clamp (by decide), show (nI 2).toNatClampNeg = 2 from nI_clamp (by decide)] <;> exact congrArg nI (pcN_gaps hgp0)) (by omega) (by omega) dX0_standbyOf_85
        · refine lv_tableIn (off := 53) (tgt := 86) hx hb dX0_standbyOf_33 (by decide) (by decide) (by decide) (by decide) ?_
          refine lv_aload_n hx hb dX0_standbyOf_86 rfl (lv_at hl 0 rfl) ?_
          refine va_getN (D := D) (ci := 3) (v := .ref c0) (C := RX3) (T := TX3) (N := 4) hx hb hts in_X3 hown hK hP 7 rfl rfl 2 (by decide) (Cx.nF hC (List.mem_of_getElem? (i := 3) rfl)) (fun _ h9 => h9) rfl dX0_standbyOf_87 ?_
          refine lv_iconst (v := nI (0)) hx hb dX0_standbyOf_90 (by decide) ?_
          refine z_cVi (As := [.int (nI (0))]) (rest := []) ⟨hx, hb, hml, hown, hts⟩ (mJ3_nextSetBit l D dA ad H.size c0 d0 e0 W0 (by assumption)) (cwV 1 hts (lw_V q988 q989 q990 q61 q991) rfl rfl rfl (by decide +kernel) ⟨Nat.le_of_ble_eq_true rfl, Nat.le_of_ble_eq_true rfl⟩) hC hS (fun _ h => hA _ (Nat.le_trans hS.1 h)) (hP.sub (ws' := [(c0, .inr (10, [.ref d0, .int (nI (uOf W0)), .int e0])), (d0, .inl (dA 1, 2, .inr (.inl (lwd W0))))]) [8, 9] rfl) (va_recv hK hP (ci := 10) (q0 := 8) rfl rfl) rfl rfl hl.1 (Nat.le_of_ble_eq_true rfl) dX0_standbyOf_91 ⟨Nat.le_of_ble_eq_true rfl, Nat.le_of_ble_eq_true rfl⟩ (fun r_6 H locs hQ hF hS => ?_)
          have hP := va_P.ro hF hP
          rcases hQ with ⟨hw9, hr9⟩ | ⟨r9, hr9, hr8, hr7⟩
          · refine lv_tope (y := (-1)) (hr9) ?_
            refine z_cSi (As := [.int (-1)]) (rest := []) ⟨hx, hb, hml, hown, hts⟩ (mX0_orNotFound l D dA ad H.size (-1)) (va_cwS 1 hts (lw_S q979 q980 q54 q981) rfl rfl rfl (by decide +kernel) ⟨Nat.le_of_ble_eq_true rfl, Nat.le_of_ble_eq_true rfl⟩) hC hS (fun _ h => hA _ (Nat.le_trans hS.1 h)) trivial rfl rfl hl.1 (Nat.le_of_ble_eq_true rfl) dX0_standbyOf_94 ⟨Nat.le_of_ble_eq_true rfl, Nat.le_of_ble_eq_true rfl⟩ (fun r_7 H locs hQ hF hS => ?_)
            have hP := va_P.ro hF hP
            obtain rfl : oNF (-1) = r_7 := hQ.symm
            exact z_iret (v := oNF (-1)) hx hb hr hS (by unfold aStandbyOf; rw [if_pos c_2, if_pos c_4]; simp only [show (nI 0).toNatClampNeg = 0 from nI_clamp (by decide), show (nI 3).toNatClampNeg = 3 from nI_clamp (by decide)] <;> exact lowG_0 hgp0 hw9) (by omega) (by omega) dX0_standbyOf_97
          · have hr1 : 1 ≤ r9 := low_pos hgp0.1 hr7
            refine lv_tope (y := nI (r9)) (hr9) ?_
            refine z_cSi (As := [.int (nI (r9))]) (rest := []) ⟨hx, hb, hml, hown, hts⟩ (mX0_orNotFound l D dA ad H.size (nI (r9))) (va_cwS 1 hts (lw_S q979 q980 q54 q981) rfl rfl rfl (by decide +kernel) ⟨Nat.le_of_ble_eq_true rfl, Nat.le_of_ble_eq_true rfl⟩) hC hS (fun _ h => hA _ (Nat.le_trans hS.1 h)) trivial rfl rfl hl.1 (Nat.le_of_ble_eq_true rfl) dX0_standbyOf_94 ⟨Nat.le_of_ble_eq_true rfl, Nat.le_of_ble_eq_true rfl⟩ (fun r_8 H locs hQ hF hS => ?_)
            have hP := va_P.ro hF hP
            obtain rfl : oNF (nI (r9)) = r_8 := hQ.symm
            exact z_iret (v := oNF (nI (r9))) hx hb hr hS (by unfold aStandbyOf; rw [if_pos c_2, if_pos c_4]; simp only [show (nI 0).toNatClampNeg = 0 from nI_clamp (by decide), show (nI 3).toNatClampNeg = 3 from nI_clamp (by decide)] <;> exact lowG_b hgp0 hr1 hr8 hr7) (by omega) (by omega) dX0_standbyOf_97
        · refine lv_tableIn (off := 65) (tgt := 98) hx hb dX0_standbyOf_33 (by decide) (by decide) (by decide) (by decide) ?_
          refine lv_aload_n hx hb dX0_standbyOf_98 rfl (lv_at hl 0 rfl) ?_
          refine va_getN (D := D) (ci := 3) (v := .int (nI (acN f 0))) (C := RX3) (T := TX3) (N := 4) hx hb hts in_X3 hown hK hP 7 rfl rfl 3 (by decide) (Cx.nF hC (List.mem_of_getElem? (i := 4) rfl)) (fun _ h9 => h9) rfl dX0_standbyOf_99 ?_
          refine lv_if_eq (tgt := 109) hx hb dX0_standbyOf_102 (by decide) (fun c_9 => ?_) (fun c_9 => ?_)
          · have c_9 := (nI_eq (by omega) (by omega)).1 (show nI _ = nI 0 from c_9)
            refine lv_iconst (v := nI (0)) hx hb dX0_standbyOf_109 (by decide) ?_
            exact z_iret (v := nI (0)) hx hb hr hS (by unfold aStandbyOf; rw [if_pos c_2, if_pos c_4]; simp only [show (nI 0).toNatClampNeg = 0 from nI_clamp (by decide), show (nI 4).toNatClampNeg = 4 from nI_clamp (by decide)] <;> exact (by show _ = sbf f 0 2; rw [hac0, show acN f 0 = 0 by omega])) (by omega) (by omega) dX0_standbyOf_110
          · have c_9 := mt (nI_eq (by omega) (by omega)).2 (show ¬ nI _ = nI 0 from c_9)
            refine lv_iconst (v := nI (1)) hx hb dX0_standbyOf_105 (by decide) ?_
            refine lv_goto (tgt := 110) hx hb dX0_standbyOf_106 (by decide) ?_
            exact z_iret (v := nI (1)) hx hb hr hS (by unfold aStandbyOf; rw [if_pos c_2, if_pos c_4]; simp only [show (nI 0).toNatClampNeg = 0 from nI_clamp (by decide), show (nI 4).toNatClampNeg = 4 from nI_clamp (by decide)] <;> exact (by show _ = sbf f 0 2; rw [hac0, show acN f 0 = 1 by omega])) (by omega) (by omega) dX0_standbyOf_110
        · refine lv_tableOut (tgt := 111) hx hb dX0_standbyOf_33 (by decide) (by decide) ?_
          refine lv_aload_n hx hb dX0_standbyOf_111 rfl (lv_at hl 1 rfl) ?_
          refine lv_aload_n hx hb dX0_standbyOf_112 rfl (lv_at hl 0 rfl) ?_
          refine lv_iload_n hx hb dX0_standbyOf_113 rfl (lv_at hl 3 rfl) ?_
          refine z_cVi (As := [.ref t0, .int (nI (5))]) (rest := []) ⟨hx, hb, hml, hown, hts⟩ (mX0_behind0 l D dA ad H.size xx st dq sb f M jo slo sao seo alo mco aeo h t0 c0 d0 e0 W0 t1 c1 d1 e1 W1 5 (hB) (by omega) (by omega)) (cwV 2 hts (lw_V q998 q1000 qs20 q54 q1001) rfl rfl rfl (by decide +kernel) ⟨Nat.le_of_ble_eq_true rfl, Nat.le_of_ble_eq_true rfl⟩) hC hS (fun _ h => hA _ (Nat.le_trans hS.1 h)) ⟨(hP.sub (ws' := [(xx, .inr (0, [.ref st, .ref dq, .ref sb])), (st, .inr (1, [.ref jo, .ref slo, .ref sao, .ref seo, .int (f 1), .int (f 2), .int (f 3), .int (f 4), .int (f 5), .int (f 6)])), (jo, .inr (2, [.ref alo])), (alo, .inr (9, [.int mco, .ref aeo, .int (nI (rN f))])), (slo, .inl (dA 0, 3, .inl (slF f))), (sao, .inl (dA 4, 2, .inr (.inr (.inr (.inr h))))), (seo, .inl (dA 0, 2, .inl (seF f))), (t0, .inr (3, [.int (nI (rcN f 0)), .int (nI (apN f 0)), .ref c0, .int (nI (acN f 0))])), (c0, .inr (10, [.ref d0, .int (nI (uOf W0)), .int e0])), (d0, .inl (dA 1, 2, .inr (.inl (lwd W0)))), (t1, .inr (3, [.int (nI (rcN f 1)), .int (nI (apN f 1)), .ref c1, .int (nI (acN f 1))])), (c1, .inr (10, [.ref d1, .int (nI (uOf W1)), .int e1])), (d1, .inl (dA 1, 2, .inr (.inl (lwd W1))))]) [0, 1, 2, 3, 4, 5, 6, 7, 8, 9, 10, 11, 12] rfl), (hP2.kept hS).ro⟩ (va_recv hK hP (ci := 0) (q0 := 0) rfl rfl) rfl rfl hl.1 (Nat.le_of_ble_eq_true rfl) dX0_standbyOf_114 ⟨Nat.le_of_ble_eq_true rfl, Nat.le_of_ble_eq_true rfl⟩ (fun r_10 H locs hQ hF hS => ?_)
          have hP := va_P.ro hF hP
          obtain rfl : aStb f 0 5 = r_10 := hQ.symm
          exact z_iret (v := aStb f 0 5) hx hb hr hS (by unfold aStandbyOf; rw [if_pos c_2, if_pos c_4]; simp only [show (nI 0).toNatClampNeg = 0 from nI_clamp (by decide), show (nI 5).toNatClampNeg = 5 from nI_clamp (by decide)] <;> exact rfl) (by omega) (by omega) dX0_standbyOf_117
        · refine lv_tableOut (tgt := 111) hx hb dX0_standbyOf_33 (by decide) (by decide) ?_
          refine lv_aload_n hx hb dX0_standbyOf_111 rfl (lv_at hl 1 rfl) ?_
          refine lv_aload_n hx hb dX0_standbyOf_112 rfl (lv_at hl 0 rfl) ?_
          refine lv_iload_n hx hb dX0_standbyOf_113 rfl (lv_at hl 3 rfl) ?_
          refine z_cVi (As := [.ref t0, .int (nI (6))]) (rest := []) ⟨hx, hb, hml, hown, hts⟩ (mX0_behind0 l D dA ad H.size xx st dq sb f M jo slo sao seo alo mco aeo h t0 c0 d0 e0 W0 t1 c1 d1 e1 W1 6 (hB) (by omega) (by omega)) (cwV 2 hts (lw_V q998 q1000 qs20 q54 q1001) rfl rfl rfl (by decide +kernel) ⟨Nat.le_of_ble_eq_true rfl, Nat.le_of_ble_eq_true rfl⟩) hC hS (fun _ h => hA _ (Nat.le_trans hS.1 h)) ⟨(hP.sub (ws' := [(xx, .inr (0, [.ref st, .ref dq, .ref sb])), (st, .inr (1, [.ref jo, .ref slo, .ref sao, .ref seo, .int (f 1), .int (f 2), .int (f 3), .int (f 4), .int (f 5), .int (f 6)])), (jo, .inr (2, [.ref alo])), (alo, .inr (9, [.int mco, .ref aeo, .int (nI (rN f))])), (slo, .inl (dA 0, 3, .inl (slF f))), (sao, .inl (dA 4, 2, .inr (.inr (.inr (.inr h))))), (seo, .inl (dA 0, 2, .inl (seF f))), (t0, .inr (3, [.int (nI (rcN f 0)), .int (nI (apN f 0)), .ref c0, .int (nI (acN f 0))])), (c0, .inr (10, [.ref d0, .int (nI (uOf W0)), .int e0])), (d0, .inl (dA 1, 2, .inr (.inl (lwd W0)))), (t1, .inr (3, [.int (nI (rcN f 1)), .int (nI (apN f 1)), .ref c1, .int (nI (acN f 1))])), (c1, .inr (10, [.ref d1, .int (nI (uOf W1)), .int e1])), (d1, .inl (dA 1, 2, .inr (.inl (lwd W1))))]) [0, 1, 2, 3, 4, 5, 6, 7, 8, 9, 10, 11, 12] rfl), (hP2.kept hS).ro⟩ (va_recv hK hP (ci := 0) (q0 := 0) rfl rfl) rfl rfl hl.1 (Nat.le_of_ble_eq_true rfl) dX0_standbyOf_114 ⟨Nat.le_of_ble_eq_true rfl, Nat.le_of_ble_eq_true rfl⟩ (fun r_11 H locs hQ hF hS => ?_)
          have hP := va_P.ro hF hP
          obtain rfl : aStb f 0 6 = r_11 := hQ.symm
          exact z_iret (v := aStb f 0 6) hx hb hr hS (by unfold aStandbyOf; rw [if_pos c_2, if_pos c_4]; simp only [show (nI 0).toNatClampNeg = 0 from nI_clamp (by decide), show (nI 6).toNatClampNeg = 6 from nI_clamp (by decide)] <;> exact rfl) (by omega) (by omega) dX0_standbyOf_117
        · refine lv_tableOut (tgt := 111) hx hb dX0_standbyOf_33 (by decide) (by decide) ?_
          refine lv_aload_n hx hb dX0_standbyOf_111 rfl (lv_at hl 1 rfl) ?_
          refine lv_aload_n hx hb dX0_standbyOf_112 rfl (lv_at hl 0 rfl) ?_
          refine lv_iload_n hx hb dX0_standbyOf_113 rfl (lv_at hl 3 rfl) ?_
          refine z_cVi (As := [.ref t0, .int (nI (7))]) (rest := []) ⟨hx, hb, hml, hown, hts⟩ (mX0_behind0 l D dA ad H.size xx st dq sb f M jo slo sao seo alo mco aeo h t0 c0 d0 e0 W0 t1 c1 d1 e1 W1 7 (hB) (by omega) (by omega)) (cwV 2 hts (lw_V q998 q1000 qs20 q54 q1001) rfl rfl rfl (by decide +kernel) ⟨Nat.le_of_ble_eq_true rfl, Nat.le_of_ble_eq_true rfl⟩) hC hS (fun _ h => hA _ (Nat.le_trans hS.1 h)) ⟨(hP.sub (ws' := [(xx, .inr (0, [.ref st, .ref dq, .ref sb])), (st, .inr (1, [.ref jo, .ref slo, .ref sao, .ref seo, .int (f 1), .int (f 2), .int (f 3), .int (f 4), .int (f 5), .int (f 6)])), (jo, .inr (2, [.ref alo])), (alo, .inr (9, [.int mco, .ref aeo, .int (nI (rN f))])), (slo, .inl (dA 0, 3, .inl (slF f))), (sao, .inl (dA 4, 2, .inr (.inr (.inr (.inr h))))), (seo, .inl (dA 0, 2, .inl (seF f))), (t0, .inr (3, [.int (nI (rcN f 0)), .int (nI (apN f 0)), .ref c0, .int (nI (acN f 0))])), (c0, .inr (10, [.ref d0, .int (nI (uOf W0)), .int e0])), (d0, .inl (dA 1, 2, .inr (.inl (lwd W0)))), (t1, .inr (3, [.int (nI (rcN f 1)), .int (nI (apN f 1)), .ref c1, .int (nI (acN f 1))])), (c1, .inr (10, [.ref d1, .int (nI (uOf W1)), .int e1])), (d1, .inl (dA 1, 2, .inr (.inl (lwd W1))))]) [0, 1, 2, 3, 4, 5, 6, 7, 8, 9, 10, 11, 12] rfl), (hP2.kept hS).ro⟩ (va_recv hK hP (ci := 0) (q0 := 0) rfl rfl) rfl rfl hl.1 (Nat.le_of_ble_eq_true rfl) dX0_standbyOf_114 ⟨Nat.le_of_ble_eq_true rfl, Nat.le_of_ble_eq_true rfl⟩ (fun r_12 H locs hQ hF hS => ?_)
          have hP := va_P.ro hF hP
          obtain rfl : aStb f 0 7 = r_12 := hQ.symm
          exact z_iret (v := aStb f 0 7) hx hb hr hS (by unfold aStandbyOf; rw [if_pos c_2, if_pos c_4]; simp only [show (nI 0).toNatClampNeg = 0 from nI_clamp (by decide), show (nI 7).toNatClampNeg = 7 from nI_clamp (by decide)] <;> exact rfl) (by omega) (by omega) dX0_standbyOf_117
        · refine lv_tableOut (tgt := 111) hx hb dX0_standbyOf_33 (by decide) (by decide) ?_
          refine lv_aload_n hx hb dX0_standbyOf_111 rfl (lv_at hl 1 rfl) ?_
          refine lv_aload_n hx hb dX0_standbyOf_112 rfl (lv_at hl 0 rfl) ?_
          refine lv_iload_n hx hb dX0_standbyOf_113 rfl (lv_at hl 3 rfl) ?_
          refine z_cVi (As := [.ref t0, .int (nI (8))]) (rest := []) ⟨hx, hb, hml, hown, hts⟩ (mX0_behind0 l D dA ad H.size xx st dq sb f M jo slo sao seo alo mco aeo h t0 c0 d0 e0 W0 t1 c1 d1 e1 W1 8 (hB) (by omega) (by omega)) (cwV 2 hts (lw_V q998 q1000 qs20 q54 q1001) rfl rfl rfl (by decide +kernel) ⟨Nat.le_of_ble_eq_true rfl, Nat.le_of_ble_eq_true rfl⟩) hC hS (fun _ h => hA _ (Nat.le_trans hS.1 h)) ⟨(hP.sub (ws' := [(xx, .inr (0, [.ref st, .ref dq, .ref sb])), (st, .inr (1, [.ref jo, .ref slo, .ref sao, .ref seo, .int (f 1), .int (f 2), .int (f 3), .int (f 4), .int (f 5), .int (f 6)])), (jo, .inr (2, [.ref alo])), (alo, .inr (9, [.int mco, .ref aeo, .int (nI (rN f))])), (slo, .inl (dA 0, 3, .inl (slF f))), (sao, .inl (dA 4, 2, .inr (.inr (.inr (.inr h))))), (seo, .inl (dA 0, 2, .inl (seF f))), (t0, .inr (3, [.int (nI (rcN f 0)), .int (nI (apN f 0)), .ref c0, .int (nI (acN f 0))])), (c0, .inr (10, [.ref d0, .int (nI (uOf W0)), .int e0])), (d0, .inl (dA 1, 2, .inr (.inl (lwd W0)))), (t1, .inr (3, [.int (nI (rcN f 1)), .int (nI (apN f 1)), .ref c1, .int (nI (acN f 1))])), (c1, .inr (10, [.ref d1, .int (nI (uOf W1)), .int e1])), (d1, .inl (dA 1, 2, .inr (.inl (lwd W1))))]) [0, 1, 2, 3, 4, 5, 6, 7, 8, 9, 10, 11, 12] rfl), (hP2.kept hS).ro⟩ (va_recv hK hP (ci := 0) (q0 := 0) rfl rfl) rfl rfl hl.1 (Nat.le_of_ble_eq_true rfl) dX0_standbyOf_114 ⟨Nat.le_of_ble_eq_true rfl, Nat.le_of_ble_eq_true rfl⟩ (fun r_13 H locs hQ hF hS => ?_)
          have hP := va_P.ro hF hP
          obtain rfl : aStb f 0 8 = r_13 := hQ.symm
          exact z_iret (v := aStb f 0 8) hx hb hr hS (by unfold aStandbyOf; rw [if_pos c_2, if_pos c_4]; simp only [show (nI 0).toNatClampNeg = 0 from nI_clamp (by decide), show (nI 8).toNatClampNeg = 8 from nI_clamp (by decide)] <;> exact rfl) (by omega) (by omega) dX0_standbyOf_117
      · refine lv_aload_n hx hb dX0_standbyOf_22 rfl (lv_at hl 0 rfl) ?_
        refine va_get (D := D) (ci := 0) (v := .ref st) (C := RX0) (T := TX0) (N := 3) hx hb hts in_X0 hown hK hP 0 rfl rfl 0 (by decide) (hts _ q284) (fun _ h9 => h9) rfl dX0_standbyOf_23 ?_
        refine va_getN (D := D) (ci := 1) (v := .ref sao) (C := RX1) (T := TX1) (N := 10) hx hb hts in_X1 hown hK hP 1 rfl rfl 2 (by decide) (Cx.nF hC (List.mem_of_getElem? (i := 7) rfl)) (fun _ h9 => h9) rfl dX0_standbyOf_26 ?_
        refine lv_iload_n hx hb dX0_standbyOf_29 rfl (lv_at hl 1 rfl) ?_
        refine va_aldq hx hb hK hP 5 4 rfl rfl (vp_in_nI (by omega) (by omega)) dX0_standbyOf_30 ?_
        refine lv_topv (y := .ref t1) (by rw [nI_clamp (by omega)]; rw [hh1]; rfl) ?_
        refine lv_astore_n (lv' := [(3, .ref t1), (0, .ref xx), (1, .int (nI (1))), (2, .int wh)]) hx hb dX0_standbyOf_31 rfl hl (by decide) rfl (fun ls hl => ?_)
        refine lv_iload_n hx hb dX0_standbyOf_32 rfl (lv_at hl 3 rfl) ?_
        obtain ⟨kw, hkw, rfl⟩ := zr_of (k := wh) (N := 8) c_4 (by decide)
        rcases (show kw = 0 ∨ kw = 1 ∨ kw = 2 ∨ kw = 3 ∨ kw = 4 ∨ kw = 5 ∨ kw = 6 ∨ kw = 7 ∨ kw = 8 by omega) with rfl | rfl | rfl | rfl | rfl | rfl | rfl | rfl | rfl
        · refine lv_tableIn (off := 35) (tgt := 68) hx hb dX0_standbyOf_33 (by decide) (by decide) (by decide) (by decide) ?_
          refine lv_aload_n hx hb dX0_standbyOf_68 rfl (lv_at hl 0 rfl) ?_
          refine va_getN (D := D) (ci := 3) (v := .int (nI (rcN f 1))) (C := RX3) (T := TX3) (N := 4) hx hb hts in_X3 hown hK hP 10 rfl rfl 0 (by decide) (Cx.nF hC (List.mem_of_getElem? (i := 1) rfl)) (fun _ h9 => h9) rfl dX0_standbyOf_69 ?_
          exact z_iret (v := nI (rcN f 1)) hx hb hr hS (by unfold aStandbyOf; rw [if_pos c_2, if_pos c_4]; simp only [show (nI 1).toNatClampNeg = 1 from nI_clamp (by decide), show (nI 0).toNatClampNeg = 0 from nI_clamp (by decide)] <;> exact qa1.symm) (by omega) (by omega) dX0_standbyOf_72
        · refine lv_tableIn (off := 40) (tgt := 73) hx hb dX0_standbyOf_33 (by decide) (by decide) (by decide) (by decide) ?_
          refine lv_aload_n hx hb dX0_standbyOf_73 rfl (lv_at hl 0 rfl) ?_
          refine va_getN (D := D) (ci := 3) (v := .int (nI (apN f 1))) (C := RX3) (T := TX3) (N := 4) hx hb hts in_X3 hown hK hP 10 rfl rfl 1 (by decide) (Cx.nF hC (List.mem_of_getElem? (i := 2) rfl)) (fun _ h9 => h9) rfl dX0_standbyOf_74 ?_
          exact z_iret (v := nI (apN f 1)) hx hb hr hS (by unfold aStandbyOf; rw [if_pos c_2, if_pos c_4]; simp only [show (nI 1).toNatClampNeg = 1 from nI_clamp (by decide), show (nI 1).toNatClampNeg = 1 from nI_clamp (by decide)] <;> exact qb1.symm) (by omega) (by omega) dX0_standbyOf_77
        · refine lv_tableIn (off := 45) (tgt := 78) hx hb dX0_standbyOf_33 (by decide) (by decide) (by decide) (by decide) ?_
          refine lv_aload_n hx hb dX0_standbyOf_78 rfl (lv_at hl 0 rfl) ?_
          refine va_getN (D := D) (ci := 3) (v := .ref c1) (C := RX3) (T := TX3) (N := 4) hx hb hts in_X3 hown hK hP 10 rfl rfl 2 (by decide) (Cx.nF hC (List.mem_of_getElem? (i := 3) rfl)) (fun _ h9 => h9) rfl dX0_standbyOf_79 ?_
          refine z_cVi (As := []) (rest := []) ⟨hx, hb, hml, hown, hts⟩ (mJ3_cardinality l D dA ad H.size c1 d1 e1 W1 (by assumption)) (cwV 0 hts (lw_V q987 q706 q707 q61 q708) rfl rfl rfl (by decide +kernel) ⟨Nat.le_of_ble_eq_true rfl, Nat.le_of_ble_eq_true rfl⟩) hC hS (fun _ h => hA _ (Nat.le_trans hS.1 h)) (hP.sub (ws' := [(c1, .inr (10, [.ref d1, .int (nI (uOf W1)), .int e1])), (d1, .inl (dA 1, 2, .inr (.inl (lwd W1))))]) [11, 12] rfl) (va_recv hK hP (ci := 10) (q0 := 11) rfl rfl) rfl rfl hl.1 (Nat.le_of_ble_eq_true rfl) dX0_standbyOf_82 ⟨Nat.le_of_ble_eq_true rfl, Nat.le_of_ble_eq_true rfl⟩ (fun r_14 H locs hQ hF hS => ?_)
          have hP := va_P.ro hF hP
          obtain rfl : nI (pcN W1) = r_14 := hQ.symm
          exact z_iret (v := nI (pcN W1)) hx hb hr hS (by unfold aStandbyOf; rw [if_pos c_2, if_pos c_4]; simp only [show (nI 1).toNatClampNeg = 1 from nI_clamp (by decide), show (nI 2).toNatClampNeg = 2 from nI_clamp (by decide)] <;> exact congrArg nI (pcN_gaps hgp1)) (by omega) (by omega) dX0_standbyOf_85
        · refine lv_tableIn (off := 53) (tgt := 86) hx hb dX0_standbyOf_33 (by decide) (by decide) (by decide) (by decide) ?_
          refine lv_aload_n hx hb dX0_standbyOf_86 rfl (lv_at hl 0 rfl) ?_
          refine va_getN (D := D) (ci := 3) (v := .ref c1) (C := RX3) (T := TX3) (N := 4) hx hb hts in_X3 hown hK hP 10 rfl rfl 2 (by decide) (Cx.nF hC (List.mem_of_getElem? (i := 3) rfl)) (fun _ h9 => h9) rfl dX0_standbyOf_87 ?_
          refine lv_iconst (v := nI (0)) hx hb dX0_standbyOf_90 (by decide) ?_
          refine z_cVi (As := [.int (nI (0))]) (rest := []) ⟨hx, hb, hml, hown, hts⟩ (mJ3_nextSetBit l D dA ad H.size c1 d1 e1 W1 (by assumption)) (cwV 1 hts (lw_V q988 q989 q990 q61 q991) rfl rfl rfl (by decide +kernel) ⟨Nat.le_of_ble_eq_true rfl, Nat.le_of_ble_eq_true rfl⟩) hC hS (fun _ h => hA _ (Nat.le_trans hS.1 h)) (hP.sub (ws' := [(c1, .inr (10, [.ref d1, .int (nI (uOf W1)), .int e1])), (d1, .inl (dA 1, 2, .inr (.inl (lwd W1))))]) [11, 12] rfl) (va_recv hK hP (ci := 10) (q0 := 11) rfl rfl) rfl rfl hl.1 (Nat.le_of_ble_eq_true rfl) dX0_standbyOf_91 ⟨Nat.le_of_ble_eq_true rfl, Nat.le_of_ble_eq_true rfl⟩ (fun r_15 H locs hQ hF hS => ?_)
          have hP := va_P.ro hF hP
          rcases hQ with ⟨hw9, hr9⟩ | ⟨r9, hr9, hr8, hr7⟩
          · refine lv_tope (y := (-1)) (hr9) ?_
            refine z_cSi (As := [.int (-1)]) (rest := []) ⟨hx, hb, hml, hown, hts⟩ (mX0_orNotFound l D dA ad H.size (-1)) (va_cwS 1 hts (lw_S q979 q980 q54 q981) rfl rfl rfl (by decide +kernel) ⟨Nat.le_of_ble_eq_true rfl, Nat.le_of_ble_eq_true rfl⟩) hC hS (fun _ h => hA _ (Nat.le_trans hS.1 h)) trivial rfl rfl hl.1 (Nat.le_of_ble_eq_true rfl) dX0_standbyOf_94 ⟨Nat.le_of_ble_eq_true rfl, Nat.le_of_ble_eq_true rfl⟩ (fun r_16 H locs hQ hF hS => ?_)
            have hP := va_P.ro hF hP
            obtain rfl : oNF (-1) = r_16 := hQ.symm
            exact z_iret (v := oNF (-1)) hx hb hr hS (by unfold aStandbyOf; rw [if_pos c_2, if_pos c_4]; simp only [show (nI 1).toNatClampNeg = 1 from nI_clamp (by decide), show (nI 3).toNatClampNeg = 3 from nI_clamp (by decide)] <;> exact lowG_0 hgp1 hw9) (by omega) (by omega) dX0_standbyOf_97
          · have hr1 : 1 ≤ r9 := low_pos hgp1.1 hr7
            refine lv_tope (y := nI (r9)) (hr9) ?_
            refine z_cSi (As := [.int (nI (r9))]) (rest := []) ⟨hx, hb, hml, hown, hts⟩ (mX0_orNotFound l D dA ad H.size (nI (r9))) (va_cwS 1 hts (lw_S q979 q980 q54 q981) rfl rfl rfl (by decide +kernel) ⟨Nat.le_of_ble_eq_true rfl, Nat.le_of_ble_eq_true rfl⟩) hC hS (fun _ h => hA _ (Nat.le_trans hS.1 h)) trivial rfl rfl hl.1 (Nat.le_of_ble_eq_true rfl) dX0_standbyOf_94 ⟨Nat.le_of_ble_eq_true rfl, Nat.le_of_ble_eq_true rfl⟩ (fun r_17 H locs hQ hF hS => ?_)
            have hP := va_P.ro hF hP
            obtain rfl : oNF (nI (r9)) = r_17 := hQ.symm
            exact z_iret (v := oNF (nI (r9))) hx hb hr hS (by unfold aStandbyOf; rw [if_pos c_2, if_pos c_4]; simp only [show (nI 1).toNatClampNeg = 1 from nI_clamp (by decide), show (nI 3).toNatClampNeg = 3 from nI_clamp (by decide)] <;> exact lowG_b hgp1 hr1 hr8 hr7) (by omega) (by omega) dX0_standbyOf_97
        · refine lv_tableIn (off := 65) (tgt := 98) hx hb dX0_standbyOf_33 (by decide) (by decide) (by decide) (by decide) ?_
          refine lv_aload_n hx hb dX0_standbyOf_98 rfl (lv_at hl 0 rfl) ?_
          refine va_getN (D := D) (ci := 3) (v := .int (nI (acN f 1))) (C := RX3) (T := TX3) (N := 4) hx hb hts in_X3 hown hK hP 10 rfl rfl 3 (by decide) (Cx.nF hC (List.mem_of_getElem? (i := 4) rfl)) (fun _ h9 => h9) rfl dX0_standbyOf_99 ?_
          refine lv_if_eq (tgt := 109) hx hb dX0_standbyOf_102 (by decide) (fun c_18 => ?_) (fun c_18 => ?_)
          · have c_18 := (nI_eq (by omega) (by omega)).1 (show nI _ = nI 0 from c_18)
            refine lv_iconst (v := nI (0)) hx hb dX0_standbyOf_109 (by decide) ?_
            exact z_iret (v := nI (0)) hx hb hr hS (by unfold aStandbyOf; rw [if_pos c_2, if_pos c_4]; simp only [show (nI 1).toNatClampNeg = 1 from nI_clamp (by decide), show (nI 4).toNatClampNeg = 4 from nI_clamp (by decide)] <;> exact (by show _ = sbf f 1 2; rw [hac1, show acN f 1 = 0 by omega])) (by omega) (by omega) dX0_standbyOf_110
          · have c_18 := mt (nI_eq (by omega) (by omega)).2 (show ¬ nI _ = nI 0 from c_18)
            refine lv_iconst (v := nI (1)) hx hb dX0_standbyOf_105 (by decide) ?_
            refine lv_goto (tgt := 110) hx hb dX0_standbyOf_106 (by decide) ?_
            exact z_iret (v := nI (1)) hx hb hr hS (by unfold aStandbyOf; rw [if_pos c_2, if_pos c_4]; simp only [show (nI 1).toNatClampNeg = 1 from nI_clamp (by decide), show (nI 4).toNatClampNeg = 4 from nI_clamp (by decide)] <;> exact (by show _ = sbf f 1 2; rw [hac1, show acN f 1 = 1 by omega])) (by omega) (by omega) dX0_standbyOf_110
        · refine lv_tableOut (tgt := 111) hx hb dX0_standbyOf_33 (by decide) (by decide) ?_
          refine lv_aload_n hx hb dX0_standbyOf_111 rfl (lv_at hl 1 rfl) ?_
          refine lv_aload_n hx hb dX0_standbyOf_112 rfl (lv_at hl 0 rfl) ?_
          refine lv_iload_n hx hb dX0_standbyOf_113 rfl (lv_at hl 3 rfl) ?_
          refine z_cVi (As := [.ref t1, .int (nI (5))]) (rest := []) ⟨hx, hb, hml, hown, hts⟩ (mX0_behind1 l D dA ad H.size xx st dq sb f M jo slo sao seo alo mco aeo h t0 c0 d0 e0 W0 t1 c1 d1 e1 W1 5 (hB) (by omega) (by omega)) (cwV 2 hts (lw_V q998 q1000 qs20 q54 q1001) rfl rfl rfl (by decide +kernel) ⟨Nat.le_of_ble_eq_true rfl, Nat.le_of_ble_eq_true rfl⟩) hC hS (fun _ h => hA _ (Nat.le_trans hS.1 h)) ⟨(hP.sub (ws' := [(xx, .inr (0, [.ref st, .ref dq, .ref sb])), (st, .inr (1, [.ref jo, .ref slo, .ref sao, .ref seo, .int (f 1), .int (f 2), .int (f 3), .int (f 4), .int (f 5), .int (f 6)])), (jo, .inr (2, [.ref alo])), (alo, .inr (9, [.int mco, .ref aeo, .int (nI (rN f))])), (slo, .inl (dA 0, 3, .inl (slF f))), (sao, .inl (dA 4, 2, .inr (.inr (.inr (.inr h))))), (seo, .inl (dA 0, 2, .inl (seF f))), (t0, .inr (3, [.int (nI (rcN f 0)), .int (nI (apN f 0)), .ref c0, .int (nI (acN f 0))])), (c0, .inr (10, [.ref d0, .int (nI (uOf W0)), .int e0])), (d0, .inl (dA 1, 2, .inr (.inl (lwd W0)))), (t1, .inr (3, [.int (nI (rcN f 1)), .int (nI (apN f 1)), .ref c1, .int (nI (acN f 1))])), (c1, .inr (10, [.ref d1, .int (nI (uOf W1)), .int e1])), (d1, .inl (dA 1, 2, .inr (.inl (lwd W1))))]) [0, 1, 2, 3, 4, 5, 6, 7, 8, 9, 10, 11, 12] rfl), (hP2.kept hS).ro⟩ (va_recv hK hP (ci := 0) (q0 := 0) rfl rfl) rfl rfl hl.1 (Nat.le_of_ble_eq_true rfl) dX0_standbyOf_114 ⟨Nat.le_of_ble_eq_true rfl, Nat.le_of_ble_eq_true rfl⟩ (fun r_19 H locs hQ hF hS => ?_)
          have hP := va_P.ro hF hP
          obtain rfl : aStb f 1 5 = r_19 := hQ.symm
          exact z_iret (v := aStb f 1 5) hx hb hr hS (by unfold aStandbyOf; rw [if_pos c_2, if_pos c_4]; simp only [show (nI 1).toNatClampNeg = 1 from nI_clamp (by decide), show (nI 5).toNatClampNeg = 5 from nI_clamp (by decide)] <;> exact rfl) (by omega) (by omega) dX0_standbyOf_117
        · refine lv_tableOut (tgt := 111) hx hb dX0_standbyOf_33 (by decide) (by decide) ?_
          refine lv_aload_n hx hb dX0_standbyOf_111 rfl (lv_at hl 1 rfl) ?_
          refine lv_aload_n hx hb dX0_standbyOf_112 rfl (lv_at hl 0 rfl) ?_
          refine lv_iload_n hx hb dX0_standbyOf_113 rfl (lv_at hl 3 rfl) ?_
          refine z_cVi (As := [.ref t1, .int (nI (6))]) (rest := []) ⟨hx, hb, hml, hown, hts⟩ (mX0_behind1 l D dA ad H.size xx st dq sb f M jo slo sao seo alo mco aeo h t0 c0 d0 e0 W0 t1 c1 d1 e1 W1 6 (hB) (by omega) (by omega)) (cwV 2 hts (lw_V q998 q1000 qs20 q54 q1001) rfl rfl rfl (by decide +kernel) ⟨Nat.le_of_ble_eq_true rfl, Nat.le_of_ble_eq_true rfl⟩) hC hS (fun _ h => hA _ (Nat.le_trans hS.1 h)) ⟨(hP.sub (ws' := [(xx, .inr (0, [.ref st, .ref dq, .ref sb])), (st, .inr (1, [.ref jo, .ref slo, .ref sao, .ref seo, .int (f 1), .int (f 2), .int (f 3), .int (f 4), .int (f 5), .int (f 6)])), (jo, .inr (2, [.ref alo])), (alo, .inr (9, [.int mco, .ref aeo, .int (nI (rN f))])), (slo, .inl (dA 0, 3, .inl (slF f))), (sao, .inl (dA 4, 2, .inr (.inr (.inr (.inr h))))), (seo, .inl (dA 0, 2, .inl (seF f))), (t0, .inr (3, [.int (nI (rcN f 0)), .int (nI (apN f 0)), .ref c0, .int (nI (acN f 0))])), (c0, .inr (10, [.ref d0, .int (nI (uOf W0)), .int e0])), (d0, .inl (dA 1, 2, .inr (.inl (lwd W0)))), (t1, .inr (3, [.int (nI (rcN f 1)), .int (nI (apN f 1)), .ref c1, .int (nI (acN f 1))])), (c1, .inr (10, [.ref d1, .int (nI (uOf W1)), .int e1])), (d1, .inl (dA 1, 2, .inr (.inl (lwd W1))))]) [0, 1, 2, 3, 4, 5, 6, 7, 8, 9, 10, 11, 12] rfl), (hP2.kept hS).ro⟩ (va_recv hK hP (ci := 0) (q0 := 0) rfl rfl) rfl rfl hl.1 (Nat.le_of_ble_eq_true rfl) dX0_standbyOf_114 ⟨Nat.le_of_ble_eq_true rfl, Nat.le_of_ble_eq_true rfl⟩ (fun r_20 H locs hQ hF hS => ?_)
          have hP := va_P.ro hF hP
          obtain rfl : aStb f 1 6 = r_20 := hQ.symm
          exact z_iret (v := aStb f 1 6) hx hb hr hS (by unfold aStandbyOf; rw [if_pos c_2, if_pos c_4]; simp only [show (nI 1).toNatClampNeg = 1 from nI_clamp (by decide), show (nI 6).toNatClampNeg = 6 from nI_clamp (by decide)] <;> exact rfl) (by omega) (by omega) dX0_standbyOf_117
        · refine lv_tableOut (tgt := 111) hx hb dX0_standbyOf_33 (by decide) (by decide) ?_
          refine lv_aload_n hx hb dX0_standbyOf_111 rfl (lv_at hl 1 rfl) ?_
          refine lv_aload_n hx hb dX0_standbyOf_112 rfl (lv_at hl 0 rfl) ?_
          refine lv_iload_n hx hb dX0_standbyOf_113 rfl (lv_at hl 3 rfl) ?_
          refine z_cVi (As := [.ref t1, .int (nI (7))]) (rest := []) ⟨hx, hb, hml, hown, hts⟩ (mX0_behind1 l D dA ad H.size xx st dq sb f M jo slo sao seo alo mco aeo h t0 c0 d0 e0 W0 t1 c1 d1 e1 W1 7 (hB) (by omega) (by omega)) (cwV 2 hts (lw_V q998 q1000 qs20 q54 q1001) rfl rfl rfl (by decide +kernel) ⟨Nat.le_of_ble_eq_true rfl, Nat.le_of_ble_eq_true rfl⟩) hC hS (fun _ h => hA _ (Nat.le_trans hS.1 h)) ⟨(hP.sub (ws' := [(xx, .inr (0, [.ref st, .ref dq, .ref sb])), (st, .inr (1, [.ref jo, .ref slo, .ref sao, .ref seo, .int (f 1), .int (f 2), .int (f 3), .int (f 4), .int (f 5), .int (f 6)])), (jo, .inr (2, [.ref alo])), (alo, .inr (9, [.int mco, .ref aeo, .int (nI (rN f))])), (slo, .inl (dA 0, 3, .inl (slF f))), (sao, .inl (dA 4, 2, .inr (.inr (.inr (.inr h))))), (seo, .inl (dA 0, 2, .inl (seF f))), (t0, .inr (3, [.int (nI (rcN f 0)), .int (nI (apN f 0)), .ref c0, .int (nI (acN f 0))])), (c0, .inr (10, [.ref d0, .int (nI (uOf W0)), .int e0])), (d0, .inl (dA 1, 2, .inr (.inl (lwd W0)))), (t1, .inr (3, [.int (nI (rcN f 1)), .int (nI (apN f 1)), .ref c1, .int (nI (acN f 1))])), (c1, .inr (10, [.ref d1, .int (nI (uOf W1)), .int e1])), (d1, .inl (dA 1, 2, .inr (.inl (lwd W1))))]) [0, 1, 2, 3, 4, 5, 6, 7, 8, 9, 10, 11, 12] rfl), (hP2.kept hS).ro⟩ (va_recv hK hP (ci := 0) (q0 := 0) rfl rfl) rfl rfl hl.1 (Nat.le_of_ble_eq_true rfl) dX0_standbyOf_114 ⟨Nat.le_of_ble_eq_true rfl, Nat.le_of_ble_eq_true rfl⟩ (fun r_21 H locs hQ hF hS => ?_)
          have hP := va_P.ro hF hP
          obtain rfl : aStb f 1 7 = r_21 := hQ.symm
          exact z_iret (v := aStb f 1 7) hx hb hr hS (by unfold aStandbyOf; rw [if_pos c_2, if_pos c_4]; simp only [show (nI 1).toNatClampNeg = 1 from nI_clamp (by decide), show (nI 7).toNatClampNeg = 7 from nI_clamp (by decide)] <;> exact rfl) (by omega) (by omega) dX0_standbyOf_117
        · refine lv_tableOut (tgt := 111) hx hb dX0_standbyOf_33 (by decide) (by decide) ?_
          refine lv_aload_n hx hb dX0_standbyOf_111 rfl (lv_at hl 1 rfl) ?_
          refine lv_aload_n hx hb dX0_standbyOf_112 rfl (lv_at hl 0 rfl) ?_
          refine lv_iload_n hx hb dX0_standbyOf_113 rfl (lv_at hl 3 rfl) ?_
          refine z_cVi (As := [.ref t1, .int (nI (8))]) (rest := []) ⟨hx, hb, hml, hown, hts⟩ (mX0_behind1 l D dA ad H.size xx st dq sb f M jo slo sao seo alo mco aeo h t0 c0 d0 e0 W0 t1 c1 d1 e1 W1 8 (hB) (by omega) (by omega)) (cwV 2 hts (lw_V q998 q1000 qs20 q54 q1001) rfl rfl rfl (by decide +kernel) ⟨Nat.le_of_ble_eq_true rfl, Nat.le_of_ble_eq_true rfl⟩) hC hS (fun _ h => hA _ (Nat.le_trans hS.1 h)) ⟨(hP.sub (ws' := [(xx, .inr (0, [.ref st, .ref dq, .ref sb])), (st, .inr (1, [.ref jo, .ref slo, .ref sao, .ref seo, .int (f 1), .int (f 2), .int (f 3), .int (f 4), .int (f 5), .int (f 6)])), (jo, .inr (2, [.ref alo])), (alo, .inr (9, [.int mco, .ref aeo, .int (nI (rN f))])), (slo, .inl (dA 0, 3, .inl (slF f))), (sao, .inl (dA 4, 2, .inr (.inr (.inr (.inr h))))), (seo, .inl (dA 0, 2, .inl (seF f))), (t0, .inr (3, [.int (nI (rcN f 0)), .int (nI (apN f 0)), .ref c0, .int (nI (acN f 0))])), (c0, .inr (10, [.ref d0, .int (nI (uOf W0)), .int e0])), (d0, .inl (dA 1, 2, .inr (.inl (lwd W0)))), (t1, .inr (3, [.int (nI (rcN f 1)), .int (nI (apN f 1)), .ref c1, .int (nI (acN f 1))])), (c1, .inr (10, [.ref d1, .int (nI (uOf W1)), .int e1])), (d1, .inl (dA 1, 2, .inr (.inl (lwd W1))))]) [0, 1, 2, 3, 4, 5, 6, 7, 8, 9, 10, 11, 12] rfl), (hP2.kept hS).ro⟩ (va_recv hK hP (ci := 0) (q0 := 0) rfl rfl) rfl rfl hl.1 (Nat.le_of_ble_eq_true rfl) dX0_standbyOf_114 ⟨Nat.le_of_ble_eq_true rfl, Nat.le_of_ble_eq_true rfl⟩ (fun r_22 H locs hQ hF hS => ?_)
          have hP := va_P.ro hF hP
          obtain rfl : aStb f 1 8 = r_22 := hQ.symm
          exact z_iret (v := aStb f 1 8) hx hb hr hS (by unfold aStandbyOf; rw [if_pos c_2, if_pos c_4]; simp only [show (nI 1).toNatClampNeg = 1 from nI_clamp (by decide), show (nI 8).toNatClampNeg = 8 from nI_clamp (by decide)] <;> exact rfl) (by omega) (by omega) dX0_standbyOf_117
    · have c_4 := bI_0.1 c_4
      refine lv_ldc (v := (-1000001)) hx hb hown (hts _ q592) dX0_standbyOf_19 ?_
      exact z_iret (v := (-1000001)) hx hb hr hS (by unfold aStandbyOf; rw [if_pos c_2, if_neg c_4]) (by omega) (by omega) dX0_standbyOf_21

set_option maxHeartbeats 4000000 in
set_option maxRecDepth 100000 in
theorem mX0_count (l : Launch) (D : va_G) (dA : Nat → ClassId) (ad : Nat → Nat) (sz : Nat) (xx : Nat) (st : Nat) (dq : Nat) (sb : Nat) (f : Nat → Int32) (M : Nat) (da : Nat) (hd : Nat) (tl : Nat) (gq : Nat → Option Nat) (sv : Nat) (ml : Int32) (ty : Nat) (wh : Int32) (hB : InvB f M) (h1 : hd < 17) (h2 : tl < 17) (h3 : ty ≤ 60) : Met l yX0_count (ws_ yX0_count cX0_count 2 (some .int)) ({ frames := 6, cells := 0, slots := 0, locals := 160 }) (va_Pc [.ref xx, .int wh] (zP D dA ad (fun q => sz ≤ q) sz (fun H => va_P D vwCl [(xx, .inr (0, [.ref st, .ref dq, .ref sb])), (dq, .inr (11, [.ref da, .int (nI (hd)), .int (nI (tl))])), (da, .inl (dA 3, 17, .inr (.inr (.inr (.inr gq))))), (sb, .inr (12, [.ref sv, .int (nI (0)), .int ml, .int (nI (ty))]))] H ∧ SR D dA (fun q => sz ≤ q) f st H))) (zQi (fun rz H => rz = aCount f (nI (s17 tl hd)) (nI (ty)) wh) (fun q => sz ≤ q)) (0) (0) (fun q => sz ≤ q) := by
  refine Met.ofW (cc := cX0_count) (maxL := 2) (ret := (some .int)) (by decide) rfl ?_
  intro p e s m args below meth c s₁ B hml hv
  obtain ⟨rfl, hsz, hC, hP⟩ := hv
  have hx := B.exec
  have hb := B.bytes
  have hr := B.returns
  have hts := atoms_spec (ws := ws_ yX0_count cX0_count 2 (some .int)) B.pre
  have hts : ∀ w ∈ lw_all, w.before _ s = true := fun w h => hts w (List.mem_cons_of_mem _ h)
  have hown : s.vm.findClass RX0 = some m.cls := findClass_of_methodNamed B.named
  have hlocks := B.notSynchronized
  subst hsz
  have hK := hC.K
  have hA : ∀ q : Nat, s.heap.size ≤ q → s.heap.size ≤ q := fun _ h => h
  have hS : va_S (fun q => s.heap.size ≤ q) s.heap s.heap [] := va_S.rf
  obtain ⟨hP, hP2⟩ := hP
  have hP : va_P D vwCl [(xx, .inr (0, [.ref st, .ref dq, .ref sb])), (dq, .inr (11, [.ref da, .int (nI (hd)), .int (nI (tl))])), (da, .inl (dA 3, 17, .inr (.inr (.inr (.inr gq))))), (sb, .inr (12, [.ref sv, .int (nI (0)), .int ml, .int (nI (ty))]))] s.heap := hP
  have hl := lv_entry ([.ref xx, .int wh]) (n := 2) (Nat.le_of_ble_eq_true rfl)
  rw [lg_entry_eq]
  generalize (lg_sl ([.ref xx, .int wh]) ++ List.replicate (2 - (lg_sl ([.ref xx, .int wh])).length) Slot.unset).toArray = ls at hl ⊢
  have hl : lv_has ls 2 [(0, .ref xx), (1, .int wh)] := hl
  obtain ⟨jo, slo, sao, seo, alo, mco, aeo, h, t0, c0, d0, e0, W0, t1, c1, d1, e1, W1, hZS, hP2, hh0, hh1, hW0, hW1, hgp0, hgp1⟩ := hP2
  have hI := hB.a
  have hn9 := hI.2.1
  obtain ⟨qa0, qb0, qc0, qd0⟩ := InvA_ap hI (b := 0) (by omega)
  obtain ⟨qa1, qb1, qc1, qd1⟩ := InvA_ap hI (b := 1) (by omega)
  obtain ⟨hac0, ha0⟩ := hB.ac (b := 0) (by omega)
  obtain ⟨hac1, ha1⟩ := hB.ac (b := 1) (by omega)
  have hP := hP.app hZS.1
  have hP : va_P D vwCl [(xx, .inr (0, [.ref st, .ref dq, .ref sb])), (dq, .inr (11, [.ref da, .int (nI (hd)), .int (nI (tl))])), (da, .inl (dA 3, 17, .inr (.inr (.inr (.inr gq))))), (sb, .inr (12, [.ref sv, .int (nI (0)), .int ml, .int (nI (ty))])), (st, .inr (1, [.ref jo, .ref slo, .ref sao, .ref seo, .int (f 1), .int (f 2), .int (f 3), .int (f 4), .int (f 5), .int (f 6)])), (jo, .inr (2, [.ref alo])), (alo, .inr (9, [.int mco, .ref aeo, .int (nI (rN f))])), (slo, .inl (dA 0, 3, .inl (slF f))), (sao, .inl (dA 4, 2, .inr (.inr (.inr (.inr h))))), (seo, .inl (dA 0, 2, .inl (seF f))), (t0, .inr (3, [.int (nI (rcN f 0)), .int (nI (apN f 0)), .ref c0, .int (nI (acN f 0))])), (c0, .inr (10, [.ref d0, .int (nI (uOf W0)), .int e0])), (d0, .inl (dA 1, 2, .inr (.inl (lwd W0)))), (t1, .inr (3, [.int (nI (rcN f 1)), .int (nI (apN f 1)), .ref c1, .int (nI (acN f 1))])), (c1, .inr (10, [.ref d1, .int (nI (uOf W1)), .int e1])), (d1, .inl (dA 1, 2, .inr (.inl (lwd W1))))] s.heap := hP
  refine lv_iload_n hx hb dX0_count_0 rfl (lv_at hl 1 rfl) ?_
  rcases pk_ix wh (n := 22) (by decide) with q9 | q9 | ⟨j, hj, rfl⟩
  · refine lv_tableOut (tgt := 140) hx hb dX0_count_1 (Or.inl (by have h9 := Int32.lt_iff_toInt_lt.1 q9; exact h9)) (by decide) ?_
    refine lv_iload_n hx hb dX0_count_140 rfl (lv_at hl 1 rfl) ?_
    refine lv_i2l (v := (wh).toInt64) hx hb dX0_count_141 (rfl) ?_
    refine lv_ldc2 (v := lN (20)) hx hb hown (hts _ q554) dX0_count_142 ?_
    refine lv_ldc2 (v := lN (21)) hx hb hown (hts _ q1050) dX0_count_145 ?_
    refine z_cSi (As := [.long ((wh).toInt64), .long (lN (20)), .long (lN (21))]) (rest := []) ⟨hx, hb, hml, hown, hts⟩ (mX0_isBetween l D dA ad s.heap.size ((wh).toInt64) (lN (20)) (lN (21))) (va_cwS 3 hts (lw_S q457 q458 q54 q459) rfl rfl rfl (by decide +kernel) ⟨Nat.le_of_ble_eq_true rfl, Nat.le_of_ble_eq_true rfl⟩) hC hS (fun _ h => hA _ (Nat.le_trans hS.1 h)) trivial rfl rfl hl.1 (Nat.le_of_ble_eq_true rfl) dX0_count_148 ⟨Nat.le_of_ble_eq_true rfl, Nat.le_of_ble_eq_true rfl⟩ (fun r_1 H locs hQ hF hS => ?_)
    have hP := va_P.ro hF hP
    obtain rfl : bI ((lN (20)) ≤ ((wh).toInt64) ∧ ((wh).toInt64) ≤ (lN (21))) = r_1 := hQ.symm
    refine lv_tope (y := bI (nI 20 ≤ wh ∧ wh ≤ nI 21)) (btw_ok (by decide) (by decide)) ?_
    refine lv_if_eq (tgt := 169) hx hb dX0_count_151 (by decide) (fun c_2 => ?_) (fun c_2 => ?_)
    · have c_2 := bI_0.1 c_2
      refine lv_ldc (v := (-1000001)) hx hb hown (hts _ q592) dX0_count_169 ?_
      exact z_iret (v := (-1000001)) hx hb hr hS (by unfold aCount; rw [if_neg]; intro q; first | exact absurd q.1 (Int32.not_le.2 q9) | exact absurd (Int32.le_trans q9 q.2) (by decide)) (by omega) (by omega) dX0_count_171
    · have c_2 := bI_1.1 c_2
      exact absurd (Int32.lt_of_le_of_lt c_2.1 q9) (by decide)
  · refine lv_tableOut (tgt := 140) hx hb dX0_count_1 (Or.inr (by have h9 := Int32.le_iff_toInt_le.1 q9; have h8 : (nI 22).toInt = 22 := (by decide); omega)) (by decide) ?_
    refine lv_iload_n hx hb dX0_count_140 rfl (lv_at hl 1 rfl) ?_
    refine lv_i2l (v := (wh).toInt64) hx hb dX0_count_141 (rfl) ?_
    refine lv_ldc2 (v := lN (20)) hx hb hown (hts _ q554) dX0_count_142 ?_
    refine lv_ldc2 (v := lN (21)) hx hb hown (hts _ q1050) dX0_count_145 ?_
    refine z_cSi (As := [.long ((wh).toInt64), .long (lN (20)), .long (lN (21))]) (rest := []) ⟨hx, hb, hml, hown, hts⟩ (mX0_isBetween l D dA ad s.heap.size ((wh).toInt64) (lN (20)) (lN (21))) (va_cwS 3 hts (lw_S q457 q458 q54 q459) rfl rfl rfl (by decide +kernel) ⟨Nat.le_of_ble_eq_true rfl, Nat.le_of_ble_eq_true rfl⟩) hC hS (fun _ h => hA _ (Nat.le_trans hS.1 h)) trivial rfl rfl hl.1 (Nat.le_of_ble_eq_true rfl) dX0_count_148 ⟨Nat.le_of_ble_eq_true rfl, Nat.le_of_ble_eq_true rfl⟩ (fun r_3 H locs hQ hF hS => ?_)
    have hP := va_P.ro hF hP
    obtain rfl : bI ((lN (20)) ≤ ((wh).toInt64) ∧ ((wh).toInt64) ≤ (lN (21))) = r_3 := hQ.symm
    refine lv_tope (y := bI (nI 20 ≤ wh ∧ wh ≤ nI 21)) (btw_ok (by decide) (by decide)) ?_
    refine lv_if_eq (tgt := 169) hx hb dX0_count_151 (by decide) (fun c_4 => ?_) (fun c_4 => ?_)
    · have c_4 := bI_0.1 c_4
      refine lv_ldc (v := (-1000001)) hx hb hown (hts _ q592) dX0_count_169 ?_
      exact z_iret (v := (-1000001)) hx hb hr hS (by unfold aCount; rw [if_neg]; intro q; first | exact absurd q.1 (Int32.not_le.2 q9) | exact absurd (Int32.le_trans q9 q.2) (by decide)) (by omega) (by omega) dX0_count_171
    · have c_4 := bI_1.1 c_4
      exact absurd (Int32.le_trans q9 c_4.2) (by decide)
  · rcases (show j = 0 ∨ j = 1 ∨ j = 2 ∨ j = 3 ∨ j = 4 ∨ j = 5 ∨ j = 6 ∨ j = 7 ∨ j = 8 ∨ j = 9 ∨ j = 10 ∨ j = 11 ∨ j = 12 ∨ j = 13 ∨ j = 14 ∨ j = 15 ∨ j = 16 ∨ j = 17 ∨ j = 18 ∨ j = 19 ∨ j = 20 ∨ j = 21 by omega) with rfl | rfl | rfl | rfl | rfl | rfl | rfl | rfl | rfl | rfl | rfl | rfl | rfl | rfl | rfl | rfl | rfl | rfl | rfl | rfl | rfl | rfl
    · refine lv_tableIn (off := 55) (tgt := 56) hx hb dX0_count_1 (by decide) (by decide) (by decide) (by decide) ?_
      refine lv_aload_n hx hb dX0_count_56 rfl (lv_at hl 0 rfl) ?_
      refine va_get (D := D) (ci := 0) (v := .ref st) (C := RX0) (T := TX0) (N := 3) hx hb hts in_X0 hown hK hP 0 rfl rfl 0 (by decide) (hts _ q284) (fun _ h9 => h9) rfl dX0_count_57 ?_
      refine va_getN (D := D) (ci := 1) (v := .ref jo) (C := RX1) (T := TX1) (N := 10) hx hb hts in_X1 hown hK hP 4 rfl rfl 0 (by decide) (Cx.nF hC (List.mem_of_getElem? (i := 5) rfl)) (fun _ h9 => h9) rfl dX0_count_60 ?_
      refine z_cVi (As := []) (rest := []) ⟨hx, hb, hml, hown, hts⟩ (mX2_size l D dA ad s.heap.size jo alo mco aeo (rN f)) (cwV 0 hts (lw_V q926 q637 q638 q56 q639) rfl rfl rfl (by decide +kernel) ⟨Nat.le_of_ble_eq_true rfl, Nat.le_of_ble_eq_true rfl⟩) hC hS (fun _ h => hA _ (Nat.le_trans hS.1 h)) (hP.sub (ws' := [(jo, .inr (2, [.ref alo])), (alo, .inr (9, [.int mco, .ref aeo, .int (nI (rN f))]))]) [5, 6] rfl) (va_recv hK hP (ci := 2) (q0 := 5) rfl rfl) rfl rfl hl.1 (Nat.le_of_ble_eq_true rfl) dX0_count_63 ⟨Nat.le_of_ble_eq_true rfl, Nat.le_of_ble_eq_true rfl⟩ (fun r_5 H locs hQ hF hS => ?_)
      have hP := va_P.ro hF hP
      obtain rfl : nI ((rN f)) = r_5 := hQ.symm
      exact z_iret (v := nI ((rN f))) hx hb hr hS (by unfold aCount; rw [if_pos (by decide), nI_clamp (by decide)]; first | rfl | exact hI.1.symm) (by omega) (by omega) dX0_count_66
    · refine lv_tableIn (off := 66) (tgt := 67) hx hb dX0_count_1 (by decide) (by decide) (by decide) (by decide) ?_
      refine lv_aload_n hx hb dX0_count_67 rfl (lv_at hl 0 rfl) ?_
      refine va_get (D := D) (ci := 0) (v := .ref st) (C := RX0) (T := TX0) (N := 3) hx hb hts in_X0 hown hK hP 0 rfl rfl 0 (by decide) (hts _ q284) (fun _ h9 => h9) rfl dX0_count_68 ?_
      refine va_getN (D := D) (ci := 1) (v := .int (f 1)) (C := RX1) (T := TX1) (N := 10) hx hb hts in_X1 hown hK hP 4 rfl rfl 4 (by decide) (Cx.nF hC (List.mem_of_getElem? (i := 9) rfl)) (fun _ h9 => h9) rfl dX0_count_71 ?_
      exact z_iret (v := f 1) hx hb hr hS (by unfold aCount; rw [if_pos (by decide), nI_clamp (by decide)]; first | rfl | exact hI.1.symm) (by omega) (by omega) dX0_count_74
    · refine lv_tableIn (off := 74) (tgt := 75) hx hb dX0_count_1 (by decide) (by decide) (by decide) (by decide) ?_
      refine lv_aload_n hx hb dX0_count_75 rfl (lv_at hl 0 rfl) ?_
      refine va_get (D := D) (ci := 0) (v := .ref st) (C := RX0) (T := TX0) (N := 3) hx hb hts in_X0 hown hK hP 0 rfl rfl 0 (by decide) (hts _ q284) (fun _ h9 => h9) rfl dX0_count_76 ?_
      refine va_getN (D := D) (ci := 1) (v := .int (f 2)) (C := RX1) (T := TX1) (N := 10) hx hb hts in_X1 hown hK hP 4 rfl rfl 5 (by decide) (Cx.nF hC (List.mem_of_getElem? (i := 10) rfl)) (fun _ h9 => h9) rfl dX0_count_79 ?_
      exact z_iret (v := f 2) hx hb hr hS (by unfold aCount; rw [if_pos (by decide), nI_clamp (by decide)]; first | rfl | exact hI.1.symm) (by omega) (by omega) dX0_count_82
    · refine lv_tableIn (off := 82) (tgt := 83) hx hb dX0_count_1 (by decide) (by decide) (by decide) (by decide) ?_
      refine lv_aload_n hx hb dX0_count_83 rfl (lv_at hl 0 rfl) ?_
      refine va_get (D := D) (ci := 0) (v := .ref st) (C := RX0) (T := TX0) (N := 3) hx hb hts in_X0 hown hK hP 0 rfl rfl 0 (by decide) (hts _ q284) (fun _ h9 => h9) rfl dX0_count_84 ?_
      refine va_getN (D := D) (ci := 1) (v := .int (f 3)) (C := RX1) (T := TX1) (N := 10) hx hb hts in_X1 hown hK hP 4 rfl rfl 6 (by decide) (Cx.nF hC (List.mem_of_getElem? (i := 11) rfl)) (fun _ h9 => h9) rfl dX0_count_87 ?_
      exact z_iret (v := f 3) hx hb hr hS (by unfold aCount; rw [if_pos (by decide), nI_clamp (by decide)]; first | rfl | exact hI.1.symm) (by omega) (by omega) dX0_count_90
    · refine lv_tableIn (off := 90) (tgt := 91) hx hb dX0_count_1 (by decide) (by decide) (by decide) (by decide) ?_
      refine lv_aload_n hx hb dX0_count_91 rfl (lv_at hl 0 rfl) ?_
      refine va_get (D := D) (ci := 0) (v := .ref st) (C := RX0) (T := TX0) (N := 3) hx hb hts in_X0 hown hK hP 0 rfl rfl 0 (by decide) (hts _ q284) (fun _ h9 => h9) rfl dX0_count_92 ?_
      refine lv_iconst (v := nI (0)) hx hb dX0_count_95 (by decide) ?_
      refine z_cVi (As := [.int (nI (0))]) (rest := []) ⟨hx, hb, hml, hown, hts⟩ (mX1_commitsBehind l D dA ad s.heap.size st jo slo sao seo (f 1) (f 2) (f 3) (f 4) (f 5) (f 6) alo mco aeo (rN f) f 0 (by omega)) (cwV 1 hts (lw_V q1002 q728 q729 q55 q730) rfl rfl rfl (by decide +kernel) ⟨Nat.le_of_ble_eq_true rfl, Nat.le_of_ble_eq_true rfl⟩) hC hS (fun _ h => hA _ (Nat.le_trans hS.1 h)) ⟨(hP.sub (ws' := [(st, .inr (1, [.ref jo, .ref slo, .ref sao, .ref seo, .int (f 1), .int (f 2), .int (f 3), .int (f 4), .int (f 5), .int (f 6)])), (jo, .inr (2, [.ref alo])), (alo, .inr (9, [.int mco, .ref aeo, .int (nI (rN f))]))]) [4, 5, 6] rfl), (hP2.kept hS).ro⟩ (va_recv hK hP (ci := 1) (q0 := 4) rfl rfl) rfl rfl hl.1 (Nat.le_of_ble_eq_true rfl) dX0_count_96 ⟨Nat.le_of_ble_eq_true rfl, Nat.le_of_ble_eq_true rfl⟩ (fun r_6 H locs hQ hF hS => ?_)
      have hP := va_P.ro hF hP
      obtain rfl : nI (commits f (0 + 1) ((rN f) - 0)) = r_6 := hQ.symm
      exact z_iret (v := nI (commits f (0 + 1) ((rN f) - 0))) hx hb hr hS (by unfold aCount; rw [if_pos (by decide), nI_clamp (by decide)]; first | rfl | exact hI.1.symm) (by omega) (by omega) dX0_count_99
    · refine lv_tableIn (off := 99) (tgt := 100) hx hb dX0_count_1 (by decide) (by decide) (by decide) (by decide) ?_
      refine lv_aload_n hx hb dX0_count_100 rfl (lv_at hl 0 rfl) ?_
      refine va_get (D := D) (ci := 0) (v := .ref st) (C := RX0) (T := TX0) (N := 3) hx hb hts in_X0 hown hK hP 0 rfl rfl 0 (by decide) (hts _ q284) (fun _ h9 => h9) rfl dX0_count_101 ?_
      refine va_getN (D := D) (ci := 1) (v := .int (f 4)) (C := RX1) (T := TX1) (N := 10) hx hb hts in_X1 hown hK hP 4 rfl rfl 7 (by decide) (Cx.nF hC (List.mem_of_getElem? (i := 12) rfl)) (fun _ h9 => h9) rfl dX0_count_104 ?_
      exact z_iret (v := f 4) hx hb hr hS (by unfold aCount; rw [if_pos (by decide), nI_clamp (by decide)]; first | rfl | exact hI.1.symm) (by omega) (by omega) dX0_count_107
    · refine lv_tableIn (off := 107) (tgt := 108) hx hb dX0_count_1 (by decide) (by decide) (by decide) (by decide) ?_
      refine lv_aload_n hx hb dX0_count_108 rfl (lv_at hl 0 rfl) ?_
      refine va_get (D := D) (ci := 0) (v := .ref st) (C := RX0) (T := TX0) (N := 3) hx hb hts in_X0 hown hK hP 0 rfl rfl 0 (by decide) (hts _ q284) (fun _ h9 => h9) rfl dX0_count_109 ?_
      refine va_getN (D := D) (ci := 1) (v := .int (f 5)) (C := RX1) (T := TX1) (N := 10) hx hb hts in_X1 hown hK hP 4 rfl rfl 8 (by decide) (Cx.nF hC (List.mem_of_getElem? (i := 13) rfl)) (fun _ h9 => h9) rfl dX0_count_112 ?_
      exact z_iret (v := f 5) hx hb hr hS (by unfold aCount; rw [if_pos (by decide), nI_clamp (by decide)]; first | rfl | exact hI.1.symm) (by omega) (by omega) dX0_count_115
    · refine lv_tableIn (off := 115) (tgt := 116) hx hb dX0_count_1 (by decide) (by decide) (by decide) (by decide) ?_
      refine lv_aload_n hx hb dX0_count_116 rfl (lv_at hl 0 rfl) ?_
      refine va_get (D := D) (ci := 0) (v := .ref st) (C := RX0) (T := TX0) (N := 3) hx hb hts in_X0 hown hK hP 0 rfl rfl 0 (by decide) (hts _ q284) (fun _ h9 => h9) rfl dX0_count_117 ?_
      refine va_getN (D := D) (ci := 1) (v := .int (f 6)) (C := RX1) (T := TX1) (N := 10) hx hb hts in_X1 hown hK hP 4 rfl rfl 9 (by decide) (Cx.nF hC (List.mem_of_getElem? (i := 14) rfl)) (fun _ h9 => h9) rfl dX0_count_120 ?_
      exact z_iret (v := f 6) hx hb hr hS (by unfold aCount; rw [if_pos (by decide), nI_clamp (by decide)]; first | rfl | exact hI.1.symm) (by omega) (by omega) dX0_count_123
    · refine lv_tableIn (off := 123) (tgt := 124) hx hb dX0_count_1 (by decide) (by decide) (by decide) (by decide) ?_
      refine lv_aload_n hx hb dX0_count_124 rfl (lv_at hl 0 rfl) ?_
      refine va_get (D := D) (ci := 0) (v := .ref dq) (C := RX0) (T := TX0) (N := 3) hx hb hts in_X0 hown hK hP 0 rfl rfl 1 (by decide) (hts _ q285) (fun _ h9 => h9) rfl dX0_count_125 ?_
      refine z_cVi (As := []) (rest := []) ⟨hx, hb, hml, hown, hts⟩ (mJ4_size l D dA ad s.heap.size dq da hd tl gq (by omega) (by omega)) (cwV 0 hts (lw_V q852 q853 q854 q62 q855) rfl rfl rfl (by decide +kernel) ⟨Nat.le_of_ble_eq_true rfl, Nat.le_of_ble_eq_true rfl⟩) hC hS (fun _ h => hA _ (Nat.le_trans hS.1 h)) (hP.sub (ws' := [(dq, .inr (11, [.ref da, .int (nI (hd)), .int (nI (tl))])), (da, .inl (dA 3, 17, .inr (.inr (.inr (.inr gq)))))]) [1, 2] rfl) (va_recv hK hP (ci := 11) (q0 := 1) rfl rfl) rfl rfl hl.1 (Nat.le_of_ble_eq_true rfl) dX0_count_128 ⟨Nat.le_of_ble_eq_true rfl, Nat.le_of_ble_eq_true rfl⟩ (fun r_7 H locs hQ hF hS => ?_)
      have hP := va_P.ro hF hP
      obtain rfl : nI (s17 tl hd) = r_7 := hQ.symm
      exact z_iret (v := nI (s17 tl hd)) hx hb hr hS (by unfold aCount; rw [if_pos (by decide), nI_clamp (by decide)]; first | rfl | exact hI.1.symm) (by omega) (by omega) dX0_count_131
    · refine lv_tableIn (off := 131) (tgt := 132) hx hb dX0_count_1 (by decide) (by decide) (by decide) (by decide) ?_
      refine lv_aload_n hx hb dX0_count_132 rfl (lv_at hl 0 rfl) ?_
      refine va_get (D := D) (ci := 0) (v := .ref sb) (C := RX0) (T := TX0) (N := 3) hx hb hts in_X0 hown hK hP 0 rfl rfl 2 (by decide) (hts _ q287) (fun _ h9 => h9) rfl dX0_count_133 ?_
      refine z_cVi (As := []) (rest := []) ⟨hx, hb, hml, hown, hts⟩ (mJ6_length l D dA ad s.heap.size sb sv ml ty) (cwV 0 hts (lw_V q1043 q1044 q1045 q64 q1046) rfl rfl rfl (by decide +kernel) ⟨Nat.le_of_ble_eq_true rfl, Nat.le_of_ble_eq_true rfl⟩) hC hS (fun _ h => hA _ (Nat.le_trans hS.1 h)) (hP.sub (ws' := [(sb, .inr (12, [.ref sv, .int (nI (0)), .int ml, .int (nI (ty))]))]) [3] rfl) (va_recv hK hP (ci := 12) (q0 := 3) rfl rfl) rfl rfl hl.1 (Nat.le_of_ble_eq_true rfl) dX0_count_136 ⟨Nat.le_of_ble_eq_true rfl, Nat.le_of_ble_eq_true rfl⟩ (fun r_8 H locs hQ hF hS => ?_)
      have hP := va_P.ro hF hP
      obtain rfl : nI (ty) = r_8 := hQ.symm
      exact z_iret (v := nI (ty)) hx hb hr hS (by unfold aCount; rw [if_pos (by decide), nI_clamp (by decide)]; first | rfl | exact hI.1.symm) (by omega) (by omega) dX0_count_139
    · refine lv_tableOut (tgt := 140) hx hb dX0_count_1 (by decide) (by decide) ?_
      refine lv_iload_n hx hb dX0_count_140 rfl (lv_at hl 1 rfl) ?_
      refine lv_i2l (v := lN (10)) hx hb dX0_count_141 (nI_l (by omega)) ?_
      refine lv_ldc2 (v := lN (20)) hx hb hown (hts _ q554) dX0_count_142 ?_
      refine lv_ldc2 (v := lN (21)) hx hb hown (hts _ q1050) dX0_count_145 ?_
      refine z_cSi (As := [.long (lN (10)), .long (lN (20)), .long (lN (21))]) (rest := []) ⟨hx, hb, hml, hown, hts⟩ (mX0_isBetween l D dA ad s.heap.size (lN (10)) (lN (20)) (lN (21))) (va_cwS 3 hts (lw_S q457 q458 q54 q459) rfl rfl rfl (by decide +kernel) ⟨Nat.le_of_ble_eq_true rfl, Nat.le_of_ble_eq_true rfl⟩) hC hS (fun _ h => hA _ (Nat.le_trans hS.1 h)) trivial rfl rfl hl.1 (Nat.le_of_ble_eq_true rfl) dX0_count_148 ⟨Nat.le_of_ble_eq_true rfl, Nat.le_of_ble_eq_true rfl⟩ (fun r_9 H locs hQ hF hS => ?_)
      have hP := va_P.ro hF hP
      obtain rfl : bI ((lN (20)) ≤ (lN (10)) ∧ (lN (10)) ≤ (lN (21))) = r_9 := hQ.symm
      refine lv_tope (y := nI (0)) (by decide) ?_
      refine lv_if_eq (tgt := 169) hx hb dX0_count_151 (by decide) (fun c_10 => ?_) (fun c_10 => ?_)
      · refine lv_ldc (v := (-1000001)) hx hb hown (hts _ q592) dX0_count_169 ?_
        exact z_iret (v := (-1000001)) hx hb hr hS (by unfold aCount; rw [if_pos (by decide), nI_clamp (by decide)]; first | rfl | exact hI.1.symm) (by omega) (by omega) dX0_count_171
      · exact absurd c_10 (by decide)
    · refine lv_tableOut (tgt := 140) hx hb dX0_count_1 (by decide) (by decide) ?_
      refine lv_iload_n hx hb dX0_count_140 rfl (lv_at hl 1 rfl) ?_
      refine lv_i2l (v := lN (11)) hx hb dX0_count_141 (nI_l (by omega)) ?_
      refine lv_ldc2 (v := lN (20)) hx hb hown (hts _ q554) dX0_count_142 ?_
      refine lv_ldc2 (v := lN (21)) hx hb hown (hts _ q1050) dX0_count_145 ?_
      refine z_cSi (As := [.long (lN (11)), .long (lN (20)), .long (lN (21))]) (rest := []) ⟨hx, hb, hml, hown, hts⟩ (mX0_isBetween l D dA ad s.heap.size (lN (11)) (lN (20)) (lN (21))) (va_cwS 3 hts (lw_S q457 q458 q54 q459) rfl rfl rfl (by decide +kernel) ⟨Nat.le_of_ble_eq_true rfl, Nat.le_of_ble_eq_true rfl⟩) hC hS (fun _ h => hA _ (Nat.le_trans hS.1 h)) trivial rfl rfl hl.1 (Nat.le_of_ble_eq_true rfl) dX0_count_148 ⟨Nat.le_of_ble_eq_true rfl, Nat.le_of_ble_eq_true rfl⟩ (fun r_11 H locs hQ hF hS => ?_)
      have hP := va_P.ro hF hP
      obtain rfl : bI ((lN (20)) ≤ (lN (11)) ∧ (lN (11)) ≤ (lN (21))) = r_11 := hQ.symm
      refine lv_tope (y := nI (0)) (by decide) ?_
      refine lv_if_eq (tgt := 169) hx hb dX0_count_151 (by decide) (fun c_12 => ?_) (fun c_12 => ?_)
      · refine lv_ldc (v := (-1000001)) hx hb hown (hts _ q592) dX0_count_169 ?_
        exact z_iret (v := (-1000001)) hx hb hr hS (by unfold aCount; rw [if_pos (by decide), nI_clamp (by decide)]; first | rfl | exact hI.1.symm) (by omega) (by omega) dX0_count_171
      · exact absurd c_12 (by decide)
    · refine lv_tableOut (tgt := 140) hx hb dX0_count_1 (by decide) (by decide) ?_
      refine lv_iload_n hx hb dX0_count_140 rfl (lv_at hl 1 rfl) ?_
      refine lv_i2l (v := lN (12)) hx hb dX0_count_141 (nI_l (by omega)) ?_
      refine lv_ldc2 (v := lN (20)) hx hb hown (hts _ q554) dX0_count_142 ?_
      refine lv_ldc2 (v := lN (21)) hx hb hown (hts _ q1050) dX0_count_145 ?_
      refine z_cSi (As := [.long (lN (12)), .long (lN (20)), .long (lN (21))]) (rest := []) ⟨hx, hb, hml, hown, hts⟩ (mX0_isBetween l D dA ad s.heap.size (lN (12)) (lN (20)) (lN (21))) (va_cwS 3 hts (lw_S q457 q458 q54 q459) rfl rfl rfl (by decide +kernel) ⟨Nat.le_of_ble_eq_true rfl, Nat.le_of_ble_eq_true rfl⟩) hC hS (fun _ h => hA _ (Nat.le_trans hS.1 h)) trivial rfl rfl hl.1 (Nat.le_of_ble_eq_true rfl) dX0_count_148 ⟨Nat.le_of_ble_eq_true rfl, Nat.le_of_ble_eq_true rfl⟩ (fun r_13 H locs hQ hF hS => ?_)
      have hP := va_P.ro hF hP
      obtain rfl : bI ((lN (20)) ≤ (lN (12)) ∧ (lN (12)) ≤ (lN (21))) = r_13 := hQ.symm
      refine lv_tope (y := nI (0)) (by decide) ?_
      refine lv_if_eq (tgt := 169) hx hb dX0_count_151 (by decide) (fun c_14 => ?_) (fun c_14 => ?_)
      · refine lv_ldc (v := (-1000001)) hx hb hown (hts _ q592) dX0_count_169 ?_
        exact z_iret (v := (-1000001)) hx hb hr hS (by unfold aCount; rw [if_pos (by decide), nI_clamp (by decide)]; first | rfl | exact hI.1.symm) (by omega) (by omega) dX0_count_171
      · exact absurd c_14 (by decide)
    · refine lv_tableOut (tgt := 140) hx hb dX0_count_1 (by decide) (by decide) ?_
      refine lv_iload_n hx hb dX0_count_140 rfl (lv_at hl 1 rfl) ?_
      refine lv_i2l (v := lN (13)) hx hb dX0_count_141 (nI_l (by omega)) ?_
      refine lv_ldc2 (v := lN (20)) hx hb hown (hts _ q554) dX0_count_142 ?_
      refine lv_ldc2 (v := lN (21)) hx hb hown (hts _ q1050) dX0_count_145 ?_
      refine z_cSi (As := [.long (lN (13)), .long (lN (20)), .long (lN (21))]) (rest := []) ⟨hx, hb, hml, hown, hts⟩ (mX0_isBetween l D dA ad s.heap.size (lN (13)) (lN (20)) (lN (21))) (va_cwS 3 hts (lw_S q457 q458 q54 q459) rfl rfl rfl (by decide +kernel) ⟨Nat.le_of_ble_eq_true rfl, Nat.le_of_ble_eq_true rfl⟩) hC hS (fun _ h => hA _ (Nat.le_trans hS.1 h)) trivial rfl rfl hl.1 (Nat.le_of_ble_eq_true rfl) dX0_count_148 ⟨Nat.le_of_ble_eq_true rfl, Nat.le_of_ble_eq_true rfl⟩ (fun r_15 H locs hQ hF hS => ?_)
      have hP := va_P.ro hF hP
      obtain rfl : bI ((lN (20)) ≤ (lN (13)) ∧ (lN (13)) ≤ (lN (21))) = r_15 := hQ.symm
      refine lv_tope (y := nI (0)) (by decide) ?_
      refine lv_if_eq (tgt := 169) hx hb dX0_count_151 (by decide) (fun c_16 => ?_) (fun c_16 => ?_)
      · refine lv_ldc (v := (-1000001)) hx hb hown (hts _ q592) dX0_count_169 ?_
        exact z_iret (v := (-1000001)) hx hb hr hS (by unfold aCount; rw [if_pos (by decide), nI_clamp (by decide)]; first | rfl | exact hI.1.symm) (by omega) (by omega) dX0_count_171
      · exact absurd c_16 (by decide)
    · refine lv_tableOut (tgt := 140) hx hb dX0_count_1 (by decide) (by decide) ?_
      refine lv_iload_n hx hb dX0_count_140 rfl (lv_at hl 1 rfl) ?_
      refine lv_i2l (v := lN (14)) hx hb dX0_count_141 (nI_l (by omega)) ?_
      refine lv_ldc2 (v := lN (20)) hx hb hown (hts _ q554) dX0_count_142 ?_
      refine lv_ldc2 (v := lN (21)) hx hb hown (hts _ q1050) dX0_count_145 ?_
      refine z_cSi (As := [.long (lN (14)), .long (lN (20)), .long (lN (21))]) (rest := []) ⟨hx, hb, hml, hown, hts⟩ (mX0_isBetween l D dA ad s.heap.size (lN (14)) (lN (20)) (lN (21))) (va_cwS 3 hts (lw_S q457 q458 q54 q459) rfl rfl rfl (by decide +kernel) ⟨Nat.le_of_ble_eq_true rfl, Nat.le_of_ble_eq_true rfl⟩) hC hS (fun _ h => hA _ (Nat.le_trans hS.1 h)) trivial rfl rfl hl.1 (Nat.le_of_ble_eq_true rfl) dX0_count_148 ⟨Nat.le_of_ble_eq_true rfl, Nat.le_of_ble_eq_true rfl⟩ (fun r_17 H locs hQ hF hS => ?_)
      have hP := va_P.ro hF hP
      obtain rfl : bI ((lN (20)) ≤ (lN (14)) ∧ (lN (14)) ≤ (lN (21))) = r_17 := hQ.symm
      refine lv_tope (y := nI (0)) (by decide) ?_
      refine lv_if_eq (tgt := 169) hx hb dX0_count_151 (by decide) (fun c_18 => ?_) (fun c_18 => ?_)
      · refine lv_ldc (v := (-1000001)) hx hb hown (hts _ q592) dX0_count_169 ?_
        exact z_iret (v := (-1000001)) hx hb hr hS (by unfold aCount; rw [if_pos (by decide), nI_clamp (by decide)]; first | rfl | exact hI.1.symm) (by omega) (by omega) dX0_count_171
      · exact absurd c_18 (by decide)
    · refine lv_tableOut (tgt := 140) hx hb dX0_count_1 (by decide) (by decide) ?_
      refine lv_iload_n hx hb dX0_count_140 rfl (lv_at hl 1 rfl) ?_
      refine lv_i2l (v := lN (15)) hx hb dX0_count_141 (nI_l (by omega)) ?_
      refine lv_ldc2 (v := lN (20)) hx hb hown (hts _ q554) dX0_count_142 ?_
      refine lv_ldc2 (v := lN (21)) hx hb hown (hts _ q1050) dX0_count_145 ?_
      refine z_cSi (As := [.long (lN (15)), .long (lN (20)), .long (lN (21))]) (rest := []) ⟨hx, hb, hml, hown, hts⟩ (mX0_isBetween l D dA ad s.heap.size (lN (15)) (lN (20)) (lN (21))) (va_cwS 3 hts (lw_S q457 q458 q54 q459) rfl rfl rfl (by decide +kernel) ⟨Nat.le_of_ble_eq_true rfl, Nat.le_of_ble_eq_true rfl⟩) hC hS (fun _ h => hA _ (Nat.le_trans hS.1 h)) trivial rfl rfl hl.1 (Nat.le_of_ble_eq_true rfl) dX0_count_148 ⟨Nat.le_of_ble_eq_true rfl, Nat.le_of_ble_eq_true rfl⟩ (fun r_19 H locs hQ hF hS => ?_)
      have hP := va_P.ro hF hP
      obtain rfl : bI ((lN (20)) ≤ (lN (15)) ∧ (lN (15)) ≤ (lN (21))) = r_19 := hQ.symm
      refine lv_tope (y := nI (0)) (by decide) ?_
      refine lv_if_eq (tgt := 169) hx hb dX0_count_151 (by decide) (fun c_20 => ?_) (fun c_20 => ?_)
      · refine lv_ldc (v := (-1000001)) hx hb hown (hts _ q592) dX0_count_169 ?_
        exact z_iret (v := (-1000001)) hx hb hr hS (by unfold aCount; rw [if_pos (by decide), nI_clamp (by decide)]; first | rfl | exact hI.1.symm) (by omega) (by omega) dX0_count_171
      · exact absurd c_20 (by decide)
    · refine lv_tableOut (tgt := 140) hx hb dX0_count_1 (by decide) (by decide) ?_
      refine lv_iload_n hx hb dX0_count_140 rfl (lv_at hl 1 rfl) ?_
      refine lv_i2l (v := lN (16)) hx hb dX0_count_141 (nI_l (by omega)) ?_
      refine lv_ldc2 (v := lN (20)) hx hb hown (hts _ q554) dX0_count_142 ?_
      refine lv_ldc2 (v := lN (21)) hx hb hown (hts _ q1050) dX0_count_145 ?_
      refine z_cSi (As := [.long (lN (16)), .long (lN (20)), .long (lN (21))]) (rest := []) ⟨hx, hb, hml, hown, hts⟩ (mX0_isBetween l D dA ad s.heap.size (lN (16)) (lN (20)) (lN (21))) (va_cwS 3 hts (lw_S q457 q458 q54 q459) rfl rfl rfl (by decide +kernel) ⟨Nat.le_of_ble_eq_true rfl, Nat.le_of_ble_eq_true rfl⟩) hC hS (fun _ h => hA _ (Nat.le_trans hS.1 h)) trivial rfl rfl hl.1 (Nat.le_of_ble_eq_true rfl) dX0_count_148 ⟨Nat.le_of_ble_eq_true rfl, Nat.le_of_ble_eq_true rfl⟩ (fun r_21 H locs hQ hF hS => ?_)
      have hP := va_P.ro hF hP
      obtain rfl : bI ((lN (20)) ≤ (lN (16)) ∧ (lN (16)) ≤ (lN (21))) = r_21 := hQ.symm
      refine lv_tope (y := nI (0)) (by decide) ?_
      refine lv_if_eq (tgt := 169) hx hb dX0_count_151 (by decide) (fun c_22 => ?_) (fun c_22 => ?_)
      · refine lv_ldc (v := (-1000001)) hx hb hown (hts _ q592) dX0_count_169 ?_
        exact z_iret (v := (-1000001)) hx hb hr hS (by unfold aCount; rw [if_pos (by decide), nI_clamp (by decide)]; first | rfl | exact hI.1.symm) (by omega) (by omega) dX0_count_171
      · exact absurd c_22 (by decide)
    · refine lv_tableOut (tgt := 140) hx hb dX0_count_1 (by decide) (by decide) ?_
      refine lv_iload_n hx hb dX0_count_140 rfl (lv_at hl 1 rfl) ?_
      refine lv_i2l (v := lN (17)) hx hb dX0_count_141 (nI_l (by omega)) ?_
      refine lv_ldc2 (v := lN (20)) hx hb hown (hts _ q554) dX0_count_142 ?_
      refine lv_ldc2 (v := lN (21)) hx hb hown (hts _ q1050) dX0_count_145 ?_
      refine z_cSi (As := [.long (lN (17)), .long (lN (20)), .long (lN (21))]) (rest := []) ⟨hx, hb, hml, hown, hts⟩ (mX0_isBetween l D dA ad s.heap.size (lN (17)) (lN (20)) (lN (21))) (va_cwS 3 hts (lw_S q457 q458 q54 q459) rfl rfl rfl (by decide +kernel) ⟨Nat.le_of_ble_eq_true rfl, Nat.le_of_ble_eq_true rfl⟩) hC hS (fun _ h => hA _ (Nat.le_trans hS.1 h)) trivial rfl rfl hl.1 (Nat.le_of_ble_eq_true rfl) dX0_count_148 ⟨Nat.le_of_ble_eq_true rfl, Nat.le_of_ble_eq_true rfl⟩ (fun r_23 H locs hQ hF hS => ?_)
      have hP := va_P.ro hF hP
      obtain rfl : bI ((lN (20)) ≤ (lN (17)) ∧ (lN (17)) ≤ (lN (21))) = r_23 := hQ.symm
      refine lv_tope (y := nI (0)) (by decide) ?_
      refine lv_if_eq (tgt := 169) hx hb dX0_count_151 (by decide) (fun c_24 => ?_) (fun c_24 => ?_)
      · refine lv_ldc (v := (-1000001)) hx hb hown (hts _ q592) dX0_count_169 ?_
        exact z_iret (v := (-1000001)) hx hb hr hS (by unfold aCount; rw [if_pos (by decide), nI_clamp (by decide)]; first | rfl | exact hI.1.symm) (by omega) (by omega) dX0_count_171
      · exact absurd c_24 (by decide)
    · refine lv_tableOut (tgt := 140) hx hb dX0_count_1 (by decide) (by decide) ?_
      refine lv_iload_n hx hb dX0_count_140 rfl (lv_at hl 1 rfl) ?_
      refine lv_i2l (v := lN (18)) hx hb dX0_count_141 (nI_l (by omega)) ?_
      refine lv_ldc2 (v := lN (20)) hx hb hown (hts _ q554) dX0_count_142 ?_
      refine lv_ldc2 (v := lN (21)) hx hb hown (hts _ q1050) dX0_count_145 ?_
      refine z_cSi (As := [.long (lN (18)), .long (lN (20)), .long (lN (21))]) (rest := []) ⟨hx, hb, hml, hown, hts⟩ (mX0_isBetween l D dA ad s.heap.size (lN (18)) (lN (20)) (lN (21))) (va_cwS 3 hts (lw_S q457 q458 q54 q459) rfl rfl rfl (by decide +kernel) ⟨Nat.le_of_ble_eq_true rfl, Nat.le_of_ble_eq_true rfl⟩) hC hS (fun _ h => hA _ (Nat.le_trans hS.1 h)) trivial rfl rfl hl.1 (Nat.le_of_ble_eq_true rfl) dX0_count_148 ⟨Nat.le_of_ble_eq_true rfl, Nat.le_of_ble_eq_true rfl⟩ (fun r_25 H locs hQ hF hS => ?_)
      have hP := va_P.ro hF hP
      obtain rfl : bI ((lN (20)) ≤ (lN (18)) ∧ (lN (18)) ≤ (lN (21))) = r_25 := hQ.symm
      refine lv_tope (y := nI (0)) (by decide) ?_
      refine lv_if_eq (tgt := 169) hx hb dX0_count_151 (by decide) (fun c_26 => ?_) (fun c_26 => ?_)
      · refine lv_ldc (v := (-1000001)) hx hb hown (hts _ q592) dX0_count_169 ?_
        exact z_iret (v := (-1000001)) hx hb hr hS (by unfold aCount; rw [if_pos (by decide), nI_clamp (by decide)]; first | rfl | exact hI.1.symm) (by omega) (by omega) dX0_count_171
      · exact absurd c_26 (by decide)
    · refine lv_tableOut (tgt := 140) hx hb dX0_count_1 (by decide) (by decide) ?_
      refine lv_iload_n hx hb dX0_count_140 rfl (lv_at hl 1 rfl) ?_
      refine lv_i2l (v := lN (19)) hx hb dX0_count_141 (nI_l (by omega)) ?_
      refine lv_ldc2 (v := lN (20)) hx hb hown (hts _ q554) dX0_count_142 ?_
      refine lv_ldc2 (v := lN (21)) hx hb hown (hts _ q1050) dX0_count_145 ?_
      refine z_cSi (As := [.long (lN (19)), .long (lN (20)), .long (lN (21))]) (rest := []) ⟨hx, hb, hml, hown, hts⟩ (mX0_isBetween l D dA ad s.heap.size (lN (19)) (lN (20)) (lN (21))) (va_cwS 3 hts (lw_S q457 q458 q54 q459) rfl rfl rfl (by decide +kernel) ⟨Nat.le_of_ble_eq_true rfl, Nat.le_of_ble_eq_true rfl⟩) hC hS (fun _ h => hA _ (Nat.le_trans hS.1 h)) trivial rfl rfl hl.1 (Nat.le_of_ble_eq_true rfl) dX0_count_148 ⟨Nat.le_of_ble_eq_true rfl, Nat.le_of_ble_eq_true rfl⟩ (fun r_27 H locs hQ hF hS => ?_)
      have hP := va_P.ro hF hP
      obtain rfl : bI ((lN (20)) ≤ (lN (19)) ∧ (lN (19)) ≤ (lN (21))) = r_27 := hQ.symm
      refine lv_tope (y := nI (0)) (by decide) ?_
      refine lv_if_eq (tgt := 169) hx hb dX0_count_151 (by decide) (fun c_28 => ?_) (fun c_28 => ?_)
      · refine lv_ldc (v := (-1000001)) hx hb hown (hts _ q592) dX0_count_169 ?_
        exact z_iret (v := (-1000001)) hx hb hr hS (by unfold aCount; rw [if_pos (by decide), nI_clamp (by decide)]; first | rfl | exact hI.1.symm) (by omega) (by omega) dX0_count_171
      · exact absurd c_28 (by decide)
    · refine lv_tableOut (tgt := 140) hx hb dX0_count_1 (by decide) (by decide) ?_
      refine lv_iload_n hx hb dX0_count_140 rfl (lv_at hl 1 rfl) ?_
      refine lv_i2l (v := lN (20)) hx hb dX0_count_141 (nI_l (by omega)) ?_
      refine lv_ldc2 (v := lN (20)) hx hb hown (hts _ q554) dX0_count_142 ?_
      refine lv_ldc2 (v := lN (21)) hx hb hown (hts _ q1050) dX0_count_145 ?_
      refine z_cSi (As := [.long (lN (20)), .long (lN (20)), .long (lN (21))]) (rest := []) ⟨hx, hb, hml, hown, hts⟩ (mX0_isBetween l D dA ad s.heap.size (lN (20)) (lN (20)) (lN (21))) (va_cwS 3 hts (lw_S q457 q458 q54 q459) rfl rfl rfl (by decide +kernel) ⟨Nat.le_of_ble_eq_true rfl, Nat.le_of_ble_eq_true rfl⟩) hC hS (fun _ h => hA _ (Nat.le_trans hS.1 h)) trivial rfl rfl hl.1 (Nat.le_of_ble_eq_true rfl) dX0_count_148 ⟨Nat.le_of_ble_eq_true rfl, Nat.le_of_ble_eq_true rfl⟩ (fun r_29 H locs hQ hF hS => ?_)
      have hP := va_P.ro hF hP
      obtain rfl : bI ((lN (20)) ≤ (lN (20)) ∧ (lN (20)) ≤ (lN (21))) = r_29 := hQ.symm
      refine lv_tope (y := nI (1)) (by decide) ?_
      refine lv_if_eq (tgt := 169) hx hb dX0_count_151 (by decide) (fun c_30 => ?_) (fun c_30 => ?_)
      · exact absurd c_30 (by decide)
      · refine lv_aload_n hx hb dX0_count_154 rfl (lv_at hl 0 rfl) ?_
        refine va_get (D := D) (ci := 0) (v := .ref st) (C := RX0) (T := TX0) (N := 3) hx hb hts in_X0 hown hK hP 0 rfl rfl 0 (by decide) (hts _ q284) (fun _ h9 => h9) rfl dX0_count_155 ?_
        refine va_getN (D := D) (ci := 1) (v := .ref seo) (C := RX1) (T := TX1) (N := 10) hx hb hts in_X1 hown hK hP 4 rfl rfl 3 (by decide) (Cx.nF hC (List.mem_of_getElem? (i := 8) rfl)) (fun _ h9 => h9) rfl dX0_count_158 ?_
        refine lv_iload_n hx hb dX0_count_161 rfl (lv_at hl 1 rfl) ?_
        refine lv_bipush (v := nI (20)) hx hb dX0_count_162 (by decide) ?_
        refine lv_isub hx hb dX0_count_164 ?_
        refine lv_tope (y := nI (0)) (by decide) ?_
        refine va_iald hx hb hK hP 9 0 rfl rfl (vp_in_nI (by omega) (by omega)) dX0_count_165 ?_
        refine lv_tope (y := (seF f) 0) (by rw [nI_clamp (by omega)]) ?_
        refine lv_goto (tgt := 171) hx hb dX0_count_166 (by decide) ?_
        exact z_iret (v := (seF f) 0) hx hb hr hS (by unfold aCount; rw [if_pos (by decide), nI_clamp (by decide)]; first | rfl | exact hI.1.symm) (by omega) (by omega) dX0_count_171
    · refine lv_tableOut (tgt := 140) hx hb dX0_count_1 (by decide) (by decide) ?_
      refine lv_iload_n hx hb dX0_count_140 rfl (lv_at hl 1 rfl) ?_
      refine lv_i2l (v := lN (21)) hx hb dX0_count_141 (nI_l (by omega)) ?_
      refine lv_ldc2 (v := lN (20)) hx hb hown (hts _ q554) dX0_count_142 ?_
      refine lv_ldc2 (v := lN (21)) hx hb hown (hts _ q1050) dX0_count_145 ?_
      refine z_cSi (As := [.long (lN (21)), .long (lN (20)), .long (lN (21))]) (rest := []) ⟨hx, hb, hml, hown, hts⟩ (mX0_isBetween l D dA ad s.heap.size (lN (21)) (lN (20)) (lN (21))) (va_cwS 3 hts (lw_S q457 q458 q54 q459) rfl rfl rfl (by decide +kernel) ⟨Nat.le_of_ble_eq_true rfl, Nat.le_of_ble_eq_true rfl⟩) hC hS (fun _ h => hA _ (Nat.le_trans hS.1 h)) trivial rfl rfl hl.1 (Nat.le_of_ble_eq_true rfl) dX0_count_148 ⟨Nat.le_of_ble_eq_true rfl, Nat.le_of_ble_eq_true rfl⟩ (fun r_31 H locs hQ hF hS => ?_)
      have hP := va_P.ro hF hP
      obtain rfl : bI ((lN (20)) ≤ (lN (21)) ∧ (lN (21)) ≤ (lN (21))) = r_31 := hQ.symm
      refine lv_tope (y := nI (1)) (by decide) ?_
      refine lv_if_eq (tgt := 169) hx hb dX0_count_151 (by decide) (fun c_32 => ?_) (fun c_32 => ?_)
      · exact absurd c_32 (by decide)
      · refine lv_aload_n hx hb dX0_count_154 rfl (lv_at hl 0 rfl) ?_
        refine va_get (D := D) (ci := 0) (v := .ref st) (C := RX0) (T := TX0) (N := 3) hx hb hts in_X0 hown hK hP 0 rfl rfl 0 (by decide) (hts _ q284) (fun _ h9 => h9) rfl dX0_count_155 ?_
        refine va_getN (D := D) (ci := 1) (v := .ref seo) (C := RX1) (T := TX1) (N := 10) hx hb hts in_X1 hown hK hP 4 rfl rfl 3 (by decide) (Cx.nF hC (List.mem_of_getElem? (i := 8) rfl)) (fun _ h9 => h9) rfl dX0_count_158 ?_
        refine lv_iload_n hx hb dX0_count_161 rfl (lv_at hl 1 rfl) ?_
        refine lv_bipush (v := nI (20)) hx hb dX0_count_162 (by decide) ?_
        refine lv_isub hx hb dX0_count_164 ?_
        refine lv_tope (y := nI (1)) (by decide) ?_
        refine va_iald hx hb hK hP 9 0 rfl rfl (vp_in_nI (by omega) (by omega)) dX0_count_165 ?_
        refine lv_tope (y := (seF f) 1) (by rw [nI_clamp (by omega)]) ?_
        refine lv_goto (tgt := 171) hx hb dX0_count_166 (by decide) ?_
        exact z_iret (v := (seF f) 1) hx hb hr hS (by unfold aCount; rw [if_pos (by decide), nI_clamp (by decide)]; first | rfl | exact hI.1.symm) (by omega) (by omega) dX0_count_171
