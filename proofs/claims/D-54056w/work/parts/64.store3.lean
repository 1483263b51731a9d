set_option maxHeartbeats 4000000 in
set_option maxRecDepth 100000 in
theorem mX1_canApply (l : Launch) (D : va_G) (dA : Nat → ClassId) (ad : Nat → Nat) (sz : Nat) (st : Nat) (jn : Nat) (sl : Nat) (sa : Nat) (se : Nat) (tk : Int32) (tl : Int32) (tr : Int32) (lc : Int32) (lr : Int32) (ax : Int32) (al : Nat) (mc : Int32) (ae : Nat) (n : Nat) (f : Nat → Int32) (seg : Nat → Int32) (sy : Nat) (rc : Nat) (ap : Nat) (ac : Nat) (bs : Nat) (bw : Nat) (stk : Int32) (Wb : Nat) (hW : Wb < 2 ^ 101) (h1 : rc ≤ 100) (h2 : ap ≤ 100) (h3 : ac ≤ 1) (h4 : rc ≤ n) : Met l yX1_canApply (ws_ yX1_canApply cX1_canApply 3 (some .boolean)) ({ frames := 4, cells := 0, slots := 0, locals := 130 }) (va_Pc [.ref st, .ref sy] (zP D dA ad (fun q => sz ≤ q) sz (fun H => va_P D vwCl [(st, .inr (1, [.ref jn, .ref sl, .ref sa, .ref se, .int tk, .int tl, .int tr, .int lc, .int lr, .int ax])), (jn, .inr (2, [.ref al])), (al, .inr (9, [.int mc, .ref ae, .int (nI (n))])), (se, .inl (dA 0, 2, .inl seg)), (sy, .inr (3, [.int (nI (rc)), .int (nI (ap)), .ref bs, .int (nI (ac))])), (bs, .inr (10, [.ref bw, .int (nI (uOf Wb)), .int stk])), (bw, .inl (dA 1, 2, .inr (.inl (lwd Wb))))] H ∧ LogRA D dA (fun q => sz ≤ q) f ae n H))) (zQi (fun rz H => rz = bI ((ap < rc ∧ ¬ Wb.testBit (ap + 1) = true) ∧ ¬ tk - rcf f (ap + 1) 4 < seg 1)) (fun q => sz ≤ q)) (0) (0) (fun q => sz ≤ q) := by
  refine Met.ofW (cc := cX1_canApply) (maxL := 3) (ret := (some .boolean)) (by decide) rfl ?_
  intro p e s m args below meth c s₁ B hml hv
  obtain ⟨rfl, hsz, hC, hP⟩ := hv
  have hx := B.exec
  have hb := B.bytes
  have hr := B.returns
  have hts := atoms_spec (ws := ws_ yX1_canApply cX1_canApply 3 (some .boolean)) B.pre
  have hts : ∀ w ∈ lw_all, w.before _ s = true := fun w h => hts w (List.mem_cons_of_mem _ h)
  have hown : s.vm.findClass RX1 = some m.cls := findClass_of_methodNamed B.named
  have hlocks := B.notSynchronized
  subst hsz
  have hK := hC.K
  have hA : ∀ q : Nat, s.heap.size ≤ q → s.heap.size ≤ q := fun _ h => h
  have hS : va_S (fun q => s.heap.size ≤ q) s.heap s.heap [] := va_S.rf
  obtain ⟨hP, hP2⟩ := hP
  have hP : va_P D vwCl [(st, .inr (1, [.ref jn, .ref sl, .ref sa, .ref se, .int tk, .int tl, .int tr, .int lc, .int lr, .int ax])), (jn, .inr (2, [.ref al])), (al, .inr (9, [.int mc, .ref ae, .int (nI (n))])), (se, .inl (dA 0, 2, .inl seg)), (sy, .inr (3, [.int (nI (rc)), .int (nI (ap)), .ref bs, .int (nI (ac))])), (bs, .inr (10, [.ref bw, .int (nI (uOf Wb)), .int stk])), (bw, .inl (dA 1, 2, .inr (.inl (lwd Wb))))] s.heap := hP
  have hn9 := hP2.1
  have hl := lv_entry ([.ref st, .ref sy]) (n := 3) (Nat.le_of_ble_eq_true rfl)
  rw [lg_entry_eq]
  generalize (lg_sl ([.ref st, .ref sy]) ++ List.replicate (3 - (lg_sl ([.ref st, .ref sy])).length) Slot.unset).toArray = ls at hl ⊢
  have hl : lv_has ls 3 [(0, .ref st), (1, .ref sy)] := hl
  refine lv_aload_n hx hb dX1_canApply_0 rfl (lv_at hl 1 rfl) ?_
  refine z_cVi (As := []) (rest := []) ⟨hx, hb, hml, hown, hts⟩ (mX3_hasNext l D dA ad s.heap.size sy rc ap ac bs bw stk Wb (by omega) (by omega) (by omega) (by omega)) (cwV 0 hts (lw_V q806 q807 q808 q60 q809) rfl rfl rfl (by decide +kernel) ⟨Nat.le_of_ble_eq_true rfl, Nat.le_of_ble_eq_true rfl⟩) hC hS (fun _ h => hA _ (Nat.le_trans hS.1 h)) (hP.sub (ws' := [(sy, .inr (3, [.int (nI (rc)), .int (nI (ap)), .ref bs, .int (nI (ac))])), (bs, .inr (10, [.ref bw, .int (nI (uOf Wb)), .int stk])), (bw, .inl (dA 1, 2, .inr (.inl (lwd Wb))))]) [4, 5, 6] rfl) (va_recv hK hP (ci := 3) (q0 := 4) rfl rfl) rfl rfl hl.1 (Nat.le_of_ble_eq_true rfl) dX1_canApply_1 ⟨Nat.le_of_ble_eq_true rfl, Nat.le_of_ble_eq_true rfl⟩ (fun r_1 H locs hQ hF hS => ?_)
  have hP := va_P.ro hF hP
  obtain rfl : bI (ap < rc ∧ ¬ Wb.testBit (ap + 1) = true) = r_1 := hQ.symm
  refine lv_if_ne (tgt := 9) hx hb dX1_canApply_4 (by decide) (fun c_2 => ?_) (fun c_2 => ?_)
  · have c_2 := bI_1.1 c_2
    refine lv_aload_n hx hb dX1_canApply_9 rfl (lv_at hl 0 rfl) ?_
    refine va_get (D := D) (ci := 1) (v := .ref jn) (C := RX1) (T := TX1) (N := 10) hx hb hts in_X1 hown hK hP 0 rfl rfl 0 (by decide) (hts _ q192) (fun _ h9 => h9) rfl dX1_canApply_10 ?_
    refine lv_aload_n hx hb dX1_canApply_13 rfl (lv_at hl 1 rfl) ?_
    refine va_getN (D := D) (ci := 3) (v := .int (nI (ap))) (C := RX3) (T := TX3) (N := 4) hx hb hts in_X3 hown hK hP 4 rfl rfl 1 (by decide) (Cx.nF hC (List.mem_of_getElem? (i := 21) rfl)) (fun _ h9 => h9) rfl dX1_canApply_14 ?_
    refine lv_iconst (v := nI (1)) hx hb dX1_canApply_17 (by decide) ?_
    refine lv_iadd hx hb dX1_canApply_18 ?_
    refine lv_tope (y := nI (ap + 1)) (nI_add _ _) ?_
    obtain ⟨y9, cap9, g9, hc9, hd9, hE9, hy9, hN9, hV9⟩ := (hP2.kept hS).ro.at (r := ap + 1) (by omega) (by omega)
    have hP := (hP.app (va_P1 hE9)).app (va_P1 hN9)
    have hP : va_P D vwCl [(st, .inr (1, [.ref jn, .ref sl, .ref sa, .ref se, .int tk, .int tl, .int tr, .int lc, .int lr, .int ax])), (jn, .inr (2, [.ref al])), (al, .inr (9, [.int mc, .ref ae, .int (nI (n))])), (se, .inl (dA 0, 2, .inl seg)), (sy, .inr (3, [.int (nI (rc)), .int (nI (ap)), .ref bs, .int (nI (ac))])), (bs, .inr (10, [.ref bw, .int (nI (uOf Wb)), .int stk])), (bw, .inl (dA 1, 2, .inr (.inl (lwd Wb)))), (ae, .inl (dA 3, cap9, .inr (.inr (.inr (.inr g9))))), (y9, .inr (6, [.int (rcf f (ap + 1) 0), .int (rcf f (ap + 1) 1), .int (nfF f (ap + 1) 2), .int (nfF f (ap + 1) 3), .int (rcf f (ap + 1) 4)]))] H := hP
    refine z_cVr (As := [.int (nI (ap + 1))]) (rest := []) ⟨hx, hb, hml, hown, hts⟩ (mX2_at l D dA ad H.size jn al mc ae n cap9 g9 (ap + 1) y9 (by omega) (by omega) (hc9) (by omega) (hy9)) (cwV 1 hts (lw_V q731 q732 q733 q56 q734) rfl rfl rfl (by decide +kernel) ⟨Nat.le_of_ble_eq_true rfl, Nat.le_of_ble_eq_true rfl⟩) hC hS (fun _ h => hA _ (Nat.le_trans hS.1 h)) ⟨(hP.sub (ws' := [(jn, .inr (2, [.ref al])), (al, .inr (9, [.int mc, .ref ae, .int (nI (n))])), (ae, .inl (dA 3, cap9, .inr (.inr (.inr (.inr g9)))))]) [1, 2, 7] rfl), hV9⟩ (va_recv hK hP (ci := 2) (q0 := 1) rfl rfl) rfl rfl hl.1 (Nat.le_of_ble_eq_true rfl) dX1_canApply_19 ⟨Nat.le_of_ble_eq_true rfl, Nat.le_of_ble_eq_true rfl⟩ (fun r_3 H locs hQ hF hS => ?_)
    have hP := va_P.ro hF hP
    obtain rfl : y9 = r_3 := hQ.symm
    refine lv_astore_n (lv' := [(2, .ref y9), (0, .ref st), (1, .ref sy)]) hx hb dX1_canApply_22 rfl hl (by decide) rfl (fun ls hl => ?_)
    refine lv_aload_n hx hb dX1_canApply_23 rfl (lv_at hl 0 rfl) ?_
    refine lv_aload_n hx hb dX1_canApply_24 rfl (lv_at hl 1 rfl) ?_
    refine va_get (D := D) (ci := 1) (v := .int tk) (C := RX1) (T := TX1) (N := 10) hx hb hts in_X1 hown hK hP 0 rfl rfl 4 (by decide) (hts _ q200) (fun _ h9 => h9) rfl dX1_canApply_25 ?_
    refine lv_aload_n hx hb dX1_canApply_28 rfl (lv_at hl 1 rfl) ?_
    refine va_get (D := D) (ci := 1) (v := .ref se) (C := RX1) (T := TX1) (N := 10) hx hb hts in_X1 hown hK hP 0 rfl rfl 3 (by decide) (hts _ q198) (fun _ h9 => h9) rfl dX1_canApply_29 ?_
    refine lv_iconst (v := nI (1)) hx hb dX1_canApply_32 (by decide) ?_
    refine va_iald hx hb hK hP 3 0 rfl rfl (vp_in_nI (by omega) (by omega)) dX1_canApply_33 ?_
    refine lv_tope (y := seg 1) (by rw [nI_clamp (by omega)]) ?_
    refine z_cDi (n := 2) (hC.K.1 6 _ rfl).2 (As := [.int tk, .int (seg 1)]) (rest := []) ⟨hx, hb, hml, hown, hts⟩ (mX9_isAgo l D dA ad H.size y9 (rcf f (ap + 1) 0) (rcf f (ap + 1) 1) (nfF f (ap + 1) 2) (nfF f (ap + 1) 3) (rcf f (ap + 1) 4) tk (seg 1)) rfl rfl ⟨Nat.le_of_ble_eq_true rfl, Nat.le_of_ble_eq_true rfl⟩ hts rfl q819 (hts _ q812) (Cx.nI hC (List.mem_of_getElem? (i := 7) rfl)) hC.nD (hts _ q817) (hts _ q1618) (by decide) (by decide +kernel) hC hS (fun _ h => hA _ (Nat.le_trans hS.1 h)) (hP.sub (ws' := [(y9, .inr (6, [.int (rcf f (ap + 1) 0), .int (rcf f (ap + 1) 1), .int (nfF f (ap + 1) 2), .int (nfF f (ap + 1) 3), .int (rcf f (ap + 1) 4)]))]) [8] rfl) (va_recv hK hP (ci := 6) (q0 := 8) rfl rfl) rfl rfl hl.1 (Nat.le_of_ble_eq_true rfl) dX1_canApply_34 ⟨Nat.le_of_ble_eq_true rfl, Nat.le_of_ble_eq_true rfl⟩ (fun r_4 H locs hQ hF hS => ?_)
    have hP := va_P.ro hF hP
    obtain rfl : bI (¬ tk - (rcf f (ap + 1) 4) < (seg 1)) = r_4 := hQ.symm
    exact z_zret (v := bI (¬ tk - (rcf f (ap + 1) 4) < (seg 1))) hx hb hr (by first | rfl | exact bI_nar) hS (bI_e ⟨fun q => ⟨c_2, q⟩, fun q => q.2⟩) (by omega) (by omega) dX1_canApply_39
  · have c_2 := bI_0.1 c_2
    refine lv_iconst (v := nI (0)) hx hb dX1_canApply_7 (by decide) ?_
    exact z_zret (v := nI (0)) hx hb hr (by first | rfl | exact bI_nar) hS ((bI_f (fun q => c_2 q.1)).symm) (by omega) (by omega) dX1_canApply_8

set_option maxHeartbeats 4000000 in
set_option maxRecDepth 100000 in
theorem mX1_applies (l : Launch) (D : va_G) (dA : Nat → ClassId) (ad : Nat → Nat) (A : Nat → Prop) (sz : Nat) (st : Nat) (jn : Nat) (sl : Nat) (sa : Nat) (se : Nat) (tk : Int32) (tl : Int32) (tr : Int32) (lc : Int32) (lr : Int32) (ax : Int32) (al : Nat) (mc : Int32) (ae : Nat) (n : Nat) (f : Nat → Int32) (seg : Nat → Int32) (sy : Nat) (rc : Nat) (ap : Nat) (ac : Nat) (bs : Nat) (bw : Nat) (stk : Int32) (Wb : Nat) (b : Nat) (rt : Nat) (hA : ∀ q, sz ≤ q → A q) (hW : Wb < 2 ^ 101) (h1 : rc ≤ 100) (h2 : ap ≤ 100) (h3 : ac ≤ 1) (h4 : rc ≤ n) (h5 : ap ≤ rc) (hg : gapB f b Wb) (hrc : sbf f b 0 = nI (rc)) (hd : seg 1 = f 8) (hrt : seg 0 = nI (rt)) (hr2 : rt ≤ 20) (hD : va_D A [(sy, .inr (3, [.int (nI (rc)), .int (nI (ap)), .ref bs, .int (nI (ac))]))]) : Met l yX1_applies (ws_ yX1_applies cX1_applies 3 (some .int)) ({ frames := 5, cells := 0, slots := 0, locals := 160 }) (va_Pc [.ref st, .ref sy] (zP D dA ad A sz (fun H => va_P D vwCl [(sy, .inr (3, [.int (nI (rc)), .int (nI (ap)), .ref bs, .int (nI (ac))]))] H ∧ zFz D A [(st, .inr (1, [.ref jn, .ref sl, .ref sa, .ref se, .int tk, .int tl, .int tr, .int lc, .int lr, .int ax])), (jn, .inr (2, [.ref al])), (al, .inr (9, [.int mc, .ref ae, .int (nI (n))])), (se, .inl (dA 0, 2, .inl seg)), (bs, .inr (10, [.ref bw, .int (nI (uOf Wb)), .int stk])), (bw, .inl (dA 1, 2, .inr (.inl (lwd Wb))))] H ∧ LogRA D dA A f ae n H))) (zQi (fun rz H => rz = nI (goesN f b tk rt ap) ∧ va_P D vwCl [(sy, .inr (3, [.int (nI (rc)), .int (nI (ap + goesN f b tk rt ap)), .ref bs, .int (nI (ac))]))] H) A) (0) (0) A := by
  refine Met.ofW (cc := cX1_applies) (maxL := 3) (ret := (some .int)) (by decide) rfl ?_
  intro p e s m args below meth c s₁ B hml hv
  obtain ⟨rfl, hsz, hC, hP⟩ := hv
  have hx := B.exec
  have hb := B.bytes
  have hr := B.returns
  have hts := atoms_spec (ws := ws_ yX1_applies cX1_applies 3 (some .int)) B.pre
  have hts : ∀ w ∈ lw_all, w.before _ s = true := fun w h => hts w (List.mem_cons_of_mem _ h)
  have hown : s.vm.findClass RX1 = some m.cls := findClass_of_methodNamed B.named
  have hlocks := B.notSynchronized
  subst hsz
  have hK := hC.K
  have hS : va_S A s.heap s.heap [] := va_S.rf
  obtain ⟨hP, hZ, hP2⟩ := hP
  have hP : va_P D vwCl [(sy, .inr (3, [.int (nI (rc)), .int (nI (ap)), .ref bs, .int (nI (ac))]))] s.heap := hP
  have hn9 := hP2.1
  have hl := lv_entry ([.ref st, .ref sy]) (n := 3) (Nat.le_of_ble_eq_true rfl)
  rw [lg_entry_eq]
  generalize (lg_sl ([.ref st, .ref sy]) ++ List.replicate (3 - (lg_sl ([.ref st, .ref sy])).length) Slot.unset).toArray = ls at hl ⊢
  have hl : lv_has ls 3 [(0, .ref st), (1, .ref sy)] := hl
  refine lv_iconst (v := nI (0)) hx hb dX1_applies_0 (by decide) ?_
  refine lv_istore_n (lv' := [(2, .int (nI (0))), (0, .ref st), (1, .ref sy)]) hx hb dX1_applies_1 rfl hl (by decide) rfl (fun ls hl => ?_)
  refine z_loop (σ := Nat) (fun x => rt - x) (fun x H locs ls => va_P D vwCl [(sy, .inr (3, [.int (nI (rc)), .int (nI (ap + x)), .ref bs, .int (nI (ac))]))] H ∧ va_D A [(sy, .inr (3, [.int (nI (rc)), .int (nI (ap + x)), .ref bs, .int (nI (ac))]))] ∧ va_S A s.heap H locs ∧ lv_has ls 3 [(0, .ref st), (1, .ref sy), (2, .int (nI (x)))] ∧ x ≤ rt ∧ ap + x ≤ rc ∧ goesN f b tk rt ap = goesN f b tk (rt - x) (ap + x) + x) (0) ⟨hP, hD.same rfl, hS, (lv_sub (l' := [(0, .ref st), (1, .ref sy), (2, .int (nI (0)))]) hl [1, 2, 0] rfl), by omega, by omega, rfl⟩ ?_
  intro x H locs ls ⟨hP, hD, hS, hl, hx1, hx2, hx3⟩ ih_2
  refine lv_iload_n hx hb dX1_applies_2 rfl (lv_at hl 2 rfl) ?_
  refine lv_aload_n hx hb dX1_applies_3 rfl (lv_at hl 0 rfl) ?_
  refine va_get (D := D) (ci := 1) (v := .ref se) (C := RX1) (T := TX1) (N := 10) hx hb hts in_X1 hown hK (hZ.at hS) 0 rfl rfl 3 (by decide) (hts _ q198) (fun _ h9 => h9) rfl dX1_applies_4 ?_
  refine lv_iconst (v := nI (0)) hx hb dX1_applies_7 (by decide) ?_
  refine va_iald hx hb hK (hZ.at hS) 3 0 rfl rfl (vp_in_nI (by omega) (by omega)) dX1_applies_8 ?_
  refine lv_tope (y := seg 0) (by rw [nI_clamp (by omega)]) ?_
  refine lv_tope (y := nI (rt)) (hrt) ?_
  refine lv_icmp_ge (tgt := 36) hx hb dX1_applies_9 (by decide) (fun c_1 => ?_) (fun c_1 => ?_)
  · have c_1 := (nI_leI (by omega) (by omega)).1 c_1
    refine lv_iload_n hx hb dX1_applies_36 rfl (lv_at hl 2 rfl) ?_
    exact z_iret (v := nI (x)) hx hb hr hS (⟨(by rw [hx3, show rt - x = 0 by omega, show goesN f b tk 0 (ap + x) = 0 from rfl]; exact congrArg nI (by omega)), (by rw [show goesN f b tk rt ap = x by rw [hx3, show rt - x = 0 by omega, show goesN f b tk 0 (ap + x) = 0 from rfl]; omega]; exact hP)⟩) (by omega) (by omega) dX1_applies_37
  · have c_1 := mt (nI_leI (by omega) (by omega)).2 c_1
    refine lv_aload_n hx hb dX1_applies_12 rfl (lv_at hl 0 rfl) ?_
    refine lv_aload_n hx hb dX1_applies_13 rfl (lv_at hl 1 rfl) ?_
    refine z_cVi (As := [.ref sy]) (rest := []) ⟨hx, hb, hml, hown, hts⟩ (mX1_canApply l D dA ad H.size st jn sl sa se tk tl tr lc lr ax al mc ae n f seg sy rc (ap + x) ac bs bw stk Wb (by omega) (by omega) (by omega) (by omega) (by omega)) (cwV 1 hts (lw_V q802 q804 qs14 q55 q805) rfl rfl rfl (by decide +kernel) ⟨Nat.le_of_ble_eq_true rfl, Nat.le_of_ble_eq_true rfl⟩) hC hS (fun _ h => hA _ (Nat.le_trans hS.1 h)) ⟨((hP.app (hZ.at hS)).sub (ws' := [(st, .inr (1, [.ref jn, .ref sl, .ref sa, .ref se, .int tk, .int tl, .int tr, .int lc, .int lr, .int ax])), (jn, .inr (2, [.ref al])), (al, .inr (9, [.int mc, .ref ae, .int (nI (n))])), (se, .inl (dA 0, 2, .inl seg)), (sy, .inr (3, [.int (nI (rc)), .int (nI (ap + x)), .ref bs, .int (nI (ac))])), (bs, .inr (10, [.ref bw, .int (nI (uOf Wb)), .int stk])), (bw, .inl (dA 1, 2, .inr (.inl (lwd Wb))))]) [1, 2, 3, 4, 0, 5, 6] rfl), (hP2.kept hS).ro⟩ (va_recv hK (hZ.at hS) (ci := 1) (q0 := 0) rfl rfl) rfl rfl hl.1 (Nat.le_of_ble_eq_true rfl) dX1_applies_14 ⟨Nat.le_of_ble_eq_true rfl, Nat.le_of_ble_eq_true rfl⟩ (fun r_2 H locs hQ hF hS => ?_)
    have hP := va_P.ro hF hP
    obtain rfl : bI (((ap + x) < rc ∧ ¬ Wb.testBit ((ap + x) + 1) = true) ∧ ¬ tk - rcf f ((ap + x) + 1) 4 < seg 1) = r_2 := hQ.symm
    refine lv_if_eq (tgt := 36) hx hb dX1_applies_17 (by decide) (fun c_3 => ?_) (fun c_3 => ?_)
    · have c_3 := bI_0.1 c_3
      refine lv_iload_n hx hb dX1_applies_36 rfl (lv_at hl 2 rfl) ?_
      exact z_iret (v := nI (x)) hx hb hr hS (⟨(by rw [hx3, goesN_no (fun q => c_3 ((okGo_iff hg hrc (by omega) (by omega) hd).2 q))]; exact congrArg nI (by omega)), (by rw [show goesN f b tk rt ap = x by rw [hx3, goesN_no (fun q => c_3 ((okGo_iff hg hrc (by omega) (by omega) hd).2 q))]; omega]; exact hP)⟩) (by omega) (by omega) dX1_applies_37
    · have c_3 := bI_1.1 c_3
      refine lv_aload_n hx hb dX1_applies_20 rfl (lv_at hl 1 rfl) ?_
      refine lv_dup hx hb dX1_applies_21 rfl ?_
      refine va_getN (D := D) (ci := 3) (v := .int (nI (ap + x))) (C := RX3) (T := TX3) (N := 4) hx hb hts in_X3 hown hK hP 0 rfl rfl 1 (by decide) (Cx.nF hC (List.mem_of_getElem? (i := 21) rfl)) (fun _ h9 => h9) rfl dX1_applies_22 ?_
      refine lv_iconst (v := nI (1)) hx hb dX1_applies_25 (by decide) ?_
      refine lv_iadd hx hb dX1_applies_26 ?_
      refine lv_tope (y := nI ((ap + x) + 1)) (nI_add _ _) ?_
      refine va_putN (D := D) (ci := 3) (v := .int (nI ((ap + x) + 1))) (ty := .int) (C := RX3) (T := TX3) (N := 4) hx hb hts in_X3 tyX3 tyX3_ok nmX3 hown hK hP hD hS 0 rfl rfl 1 (by decide) (Cx.nF hC (List.mem_of_getElem? (i := 21) rfl)) (fun _ h9 => h9) rfl (by decide +kernel) rfl rfl (Nat.le_of_ble_eq_true rfl) dX1_applies_27 (fun H locs hP hD hS => ?_)
      have hP : va_P D vwCl [(sy, .inr (3, [.int (nI (rc)), .int (nI ((ap + x) + 1)), .ref bs, .int (nI (ac))]))] H := hP
      have hD : va_D A [(sy, .inr (3, [.int (nI (rc)), .int (nI ((ap + x) + 1)), .ref bs, .int (nI (ac))]))] := hD
      refine lv_iinc (v := nI (x + 1)) (lv' := [(2, .int (nI (x + 1))), (0, .ref st), (1, .ref sy)]) hx hb dX1_applies_30 hl (k := 2) rfl (nI_add _ _) (by decide) rfl (fun ls hl => ?_)
      refine lv_goto (tgt := 2) hx hb dX1_applies_33 (by decide) ?_
      exact ih_2 (x + 1) H locs ls ⟨hP, hD.same rfl, hS, (lv_sub (l' := [(0, .ref st), (1, .ref sy), (2, .int (nI ((x + 1))))]) hl [1, 2, 0] rfl), by omega, by have := (c_3).1.1; omega, by rw [hx3, goesN_go (by omega) ((okGo_iff hg hrc (by omega) (by omega) hd).1 c_3)]; omega⟩ (by omega)
