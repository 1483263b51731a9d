set_option maxHeartbeats 4000000 in
set_option maxRecDepth 100000 in
theorem mX1_ships (l : Launch) (D : va_G) (dA : Nat → ClassId) (ad : Nat → Nat) (A : Nat → Prop) (sz : Nat) (st : Nat) (jn : Nat) (sl : Nat) (sa : Nat) (se : Nat) (tk : Int32) (tl : Int32) (tr : Int32) (lc : Int32) (lr : Int32) (ax : Int32) (h : Nat → Option Nat) (al : Nat) (mc : Int32) (ae : Nat) (n : Nat) (sy : Nat) (rc : Nat) (ap : Nat) (ac : Nat) (bs : Nat) (j : Nat) (k : Nat) (hA : ∀ q, sz ≤ q → A q) (h1 : j < 2) (h2 : k ≤ 20) (h3 : rc ≤ n) (h4 : n ≤ 100) (hg : h j = some sy) (hstr : l.stackTraces = false) (hD : va_D A [(sy, .inr (3, [.int (nI (rc)), .int (nI (ap)), .ref bs, .int (nI (ac))]))]) : vx_Met l yX1_ships (ws_ yX1_ships cX1_ships 5 (some .int)) ({ frames := 7, cells := 1, slots := 7, locals := 200 }) (va_Pc [.ref st, .int (nI (j)), .int (nI (k))] (zP D dA ad A sz (fun H => va_P D vwCl [(sy, .inr (3, [.int (nI (rc)), .int (nI (ap)), .ref bs, .int (nI (ac))]))] H ∧ zFz D A [(st, .inr (1, [.ref jn, .ref sl, .ref sa, .ref se, .int tk, .int tl, .int tr, .int lc, .int lr, .int ax])), (sa, .inl (dA 4, 2, .inr (.inr (.inr (.inr h))))), (jn, .inr (2, [.ref al])), (al, .inr (9, [.int mc, .ref ae, .int (nI (n))]))] H))) (zQi (fun rz H => rz = nI (if n - rc < k then n - rc else k) ∧ nI (ac) = 0 ∧ va_P D vwCl [(sy, .inr (3, [.int (nI (rc + (if n - rc < k then n - rc else k))), .int (nI (ap)), .ref bs, .int (nI (ac))]))] H ∧ va_D A [(sy, .inr (3, [.int (nI (rc + (if n - rc < k then n - rc else k))), .int (nI (ap)), .ref bs, .int (nI (ac))]))]) A) (zX "FencedStandbys$Refused" (fun q H => ¬ nI (ac) = 0 ∧ RfP D cNP q H) (A)) (1) (7) A := by
  refine vx_ofW (cc := cX1_ships) (maxL := 5) (ret := (some .int)) (by decide) rfl ?_
  intro p e s m args below meth c s₁ B hml htab hv
  obtain ⟨rfl, hsz, hC, hP⟩ := hv
  have hx := B.exec
  have hb := B.bytes
  have hr := B.returns
  have hts := atoms_spec (ws := ws_ yX1_ships cX1_ships 5 (some .int)) B.pre
  have hts : ∀ w ∈ lw_all, w.before _ s = true := fun w h => hts w (List.mem_cons_of_mem _ h)
  have hown : s.vm.findClass RX1 = some m.cls := findClass_of_methodNamed B.named
  have hlocks := B.notSynchronized
  subst hsz
  have hK := hC.K
  have hS : va_S A s.heap s.heap [] := va_S.rf
  obtain ⟨hP, hZ⟩ := hP
  have hP : va_P D vwCl [(sy, .inr (3, [.int (nI (rc)), .int (nI (ap)), .ref bs, .int (nI (ac))]))] s.heap := hP
  have hl := lv_entry ([.ref st, .int (nI (j)), .int (nI (k))]) (n := 5) (Nat.le_of_ble_eq_true rfl)
  rw [lg_entry_eq]
  generalize (lg_sl ([.ref st, .int (nI (j)), .int (nI (k))]) ++ List.replicate (5 - (lg_sl ([.ref st, .int (nI (j)), .int (nI (k))])).length) Slot.unset).toArray = ls at hl ⊢
  have hl : lv_has ls 5 [(0, .ref st), (1, .int (nI (j))), (2, .int (nI (k)))] := hl
  refine lv_aload_n hx hb dX1_ships_0 rfl (lv_at hl 0 rfl) ?_
  refine lv_iload_n hx hb dX1_ships_1 rfl (lv_at hl 1 rfl) ?_
  have hSo := hS
  refine z_xVq (As := [.int (nI (j))]) (rest := []) ⟨hx, hb, hml, hown, hts⟩ (mX1_well l D dA ad s.heap.size st jn sl sa se tk tl tr lc lr ax h sy (nI (rc)) (nI (ap)) bs (nI (ac)) j (by omega) (hg) (hstr)) (cwV 1 hts (lw_V q684 q686 qs9 q55 q687) rfl rfl rfl (by decide +kernel) ⟨Nat.le_of_ble_eq_true rfl, Nat.le_of_ble_eq_true rfl⟩) hC hS (fun _ h => hA _ (Nat.le_trans hS.1 h)) ((hP.app (hZ.at hS)).sub (ws' := [(st, .inr (1, [.ref jn, .ref sl, .ref sa, .ref se, .int tk, .int tl, .int tr, .int lc, .int lr, .int ax])), (sa, .inl (dA 4, 2, .inr (.inr (.inr (.inr h))))), (sy, .inr (3, [.int (nI (rc)), .int (nI (ap)), .ref bs, .int (nI (ac))]))]) [1, 2, 0] rfl) (va_recv hK (hZ.at hS) (ci := 1) (q0 := 0) rfl rfl) rfl rfl hl.1 (Nat.le_of_ble_eq_true rfl) dX1_ships_2 ⟨Nat.le_of_ble_eq_true rfl, Nat.le_of_ble_eq_true rfl⟩ (fun q9 H locs hX9 hF hS => ?_) (fun r_1 H locs hQ hF hS => ?_)
  · exact z_outR htab hlocks hC.K hS hX9.2 (hX9) (by omega) (by omega)
  obtain ⟨hQ, hq1, hP1, hD1⟩ := hQ
  obtain ⟨hP, hD⟩ := z_addnew (hA_up hA hSo) hP hD hF hP1 hD1
  have hP : va_P D vwCl [(sy, .inr (3, [.int (nI (rc)), .int (nI (ap)), .ref bs, .int (nI (ac))]))] H := hP
  have hD : va_D A [(sy, .inr (3, [.int (nI (rc)), .int (nI (ap)), .ref bs, .int (nI (ac))]))] := hD
  obtain rfl : (some sy) = r_1 := hQ.symm
  refine lv_topv (y := .ref sy) (rfl) ?_
  refine lv_astore_n (lv' := [(3, .ref sy), (0, .ref st), (1, .int (nI (j))), (2, .int (nI (k)))]) hx hb dX1_ships_5 rfl hl (by decide) rfl (fun ls hl => ?_)
  refine lv_iload_n hx hb dX1_ships_6 rfl (lv_at hl 3 rfl) ?_
  refine lv_aload_n hx hb dX1_ships_7 rfl (lv_at hl 1 rfl) ?_
  refine va_get (D := D) (ci := 1) (v := .ref jn) (C := RX1) (T := TX1) (N := 10) hx hb hts in_X1 hown hK (hZ.at hS) 0 rfl rfl 0 (by decide) (hts _ q192) (fun _ h9 => h9) rfl dX1_ships_8 ?_
  refine z_cVi (As := []) (rest := [.int (nI (k))]) ⟨hx, hb, hml, hown, hts⟩ (mX2_size l D dA ad H.size jn al mc ae n) (cwV 0 hts (lw_V q636 q637 q638 q56 q639) rfl rfl rfl (by decide +kernel) ⟨Nat.le_of_ble_eq_true rfl, Nat.le_of_ble_eq_true rfl⟩) hC hS (fun _ h => hA _ (Nat.le_trans hS.1 h)) ((hZ.at hS).sub (ws' := [(jn, .inr (2, [.ref al])), (al, .inr (9, [.int mc, .ref ae, .int (nI (n))]))]) [2, 3] rfl) (va_recv hK (hZ.at hS) (ci := 2) (q0 := 2) rfl rfl) rfl rfl hl.1 (Nat.le_of_ble_eq_true rfl) dX1_ships_11 ⟨Nat.le_of_ble_eq_true rfl, Nat.le_of_ble_eq_true rfl⟩ (fun r_2 H locs hQ hF hS => ?_)
  have hP := va_P.ro hF hP
  obtain rfl : nI (n) = r_2 := hQ.symm
  refine lv_aload_n hx hb dX1_ships_14 rfl (lv_at hl 0 rfl) ?_
  refine va_getN (D := D) (ci := 3) (v := .int (nI (rc))) (C := RX3) (T := TX3) (N := 4) hx hb hts in_X3 hown hK hP 0 rfl rfl 0 (by decide) (Cx.nF hC (List.mem_of_getElem? (i := 20) rfl)) (fun _ h9 => h9) rfl dX1_ships_15 ?_
  refine lv_isub hx hb dX1_ships_18 ?_
  refine lv_tope (y := nI (n - rc)) (pk_sub (by omega)) ?_
  refine va_mmin hx hb (hml.trans hl.1.symm) hown (hts _ q688) (hts _ q410) (hts _ q70) (hts _ q411) (Nat.le_of_ble_eq_true rfl) (Nat.le_of_ble_eq_true rfl) (by first | exact Nat.le_of_ble_eq_true rfl | (show _ ≤ _; simp only [headSpec]; omega)) (by first | exact Nat.le_of_ble_eq_true rfl | (show _ ≤ _; simp only [headSpec]; omega)) dX1_ships_19 ?_
  refine lv_tope (y := nI (if n - rc < k then n - rc else k)) (mn_n (by omega) (by omega)) ?_
  refine lv_istore (lv' := [(4, .int (nI (if n - rc < k then n - rc else k))), (3, .ref sy), (0, .ref st), (1, .int (nI (j))), (2, .int (nI (k)))]) hx hb dX1_ships_22 hl (by decide) rfl (fun ls hl => ?_)
  refine lv_aload_n hx hb dX1_ships_24 rfl (lv_at hl 1 rfl) ?_
  refine lv_dup hx hb dX1_ships_25 rfl ?_
  refine va_getN (D := D) (ci := 3) (v := .int (nI (rc))) (C := RX3) (T := TX3) (N := 4) hx hb hts in_X3 hown hK hP 0 rfl rfl 0 (by decide) (Cx.nF hC (List.mem_of_getElem? (i := 20) rfl)) (fun _ h9 => h9) rfl dX1_ships_26 ?_
  refine lv_iload hx hb dX1_ships_29 (lv_at hl 0 rfl) ?_
  refine lv_iadd hx hb dX1_ships_31 ?_
  refine lv_tope (y := nI (rc + (if n - rc < k then n - rc else k))) (nI_add _ _) ?_
  refine va_putN (D := D) (ci := 3) (v := .int (nI (rc + (if n - rc < k then n - rc else k)))) (ty := .int) (C := RX3) (T := TX3) (N := 4) hx hb hts in_X3 tyX3 tyX3_ok nmX3 hown hK hP hD hS 0 rfl rfl 0 (by decide) (Cx.nF hC (List.mem_of_getElem? (i := 20) rfl)) (fun _ h9 => h9) rfl (by decide +kernel) rfl rfl (Nat.le_of_ble_eq_true rfl) dX1_ships_32 (fun H locs hP hD hS => ?_)
  have hP : va_P D vwCl [(sy, .inr (3, [.int (nI (rc + (if n - rc < k then n - rc else k))), .int (nI (ap)), .ref bs, .int (nI (ac))]))] H := hP
  have hD : va_D A [(sy, .inr (3, [.int (nI (rc + (if n - rc < k then n - rc else k))), .int (nI (ap)), .ref bs, .int (nI (ac))]))] := hD
  refine lv_iload hx hb dX1_ships_35 (lv_at hl 0 rfl) ?_
  exact vx_ret (z_iret (v := nI (if n - rc < k then n - rc else k)) hx hb hr hS (⟨rfl, hq1, hP, hD⟩) (by omega) (by omega) dX1_ships_37)

set_option maxHeartbeats 4000000 in
set_option maxRecDepth 100000 in
theorem mX1_resends (l : Launch) (D : va_G) (dA : Nat → ClassId) (ad : Nat → Nat) (A : Nat → Prop) (sz : Nat) (st : Nat) (jn : Nat) (sl : Nat) (sa : Nat) (se : Nat) (tk : Int32) (tl : Int32) (tr : Int32) (lc : Int32) (lr : Int32) (ax : Int32) (h : Nat → Option Nat) (sy : Nat) (rc : Nat) (ap : Nat) (ac : Nat) (bs : Nat) (bw : Nat) (stk : Int32) (Wb : Nat) (j : Nat) (hA : ∀ q, sz ≤ q → A q) (hW : Wb < 2 ^ 101) (h1 : j < 2) (hg : h j = some sy) (hstr : l.stackTraces = false) (hD : va_D A [(bs, .inr (10, [.ref bw, .int (nI (uOf Wb)), .int stk])), (bw, .inl (dA 1, 2, .inr (.inl (lwd Wb))))]) : vx_Met l yX1_resends (ws_ yX1_resends cX1_resends 4 (some .int)) ({ frames := 7, cells := 1, slots := 7, locals := 200 }) (va_Pc [.ref st, .int (nI (j))] (zP D dA ad A sz (fun H => va_P D vwCl [(bs, .inr (10, [.ref bw, .int (nI (uOf Wb)), .int stk])), (bw, .inl (dA 1, 2, .inr (.inl (lwd Wb))))] H ∧ zFz D A [(st, .inr (1, [.ref jn, .ref sl, .ref sa, .ref se, .int tk, .int tl, .int tr, .int lc, .int lr, .int ax])), (sa, .inl (dA 4, 2, .inr (.inr (.inr (.inr h))))), (sy, .inr (3, [.int (nI (rc)), .int (nI (ap)), .ref bs, .int (nI (ac))]))] H))) (zQi (fun rz H => rz = nI (pcN Wb) ∧ nI (ac) = 0 ∧ va_P D vwCl [(bs, .inr (10, [.ref bw, .int (nI (uOf 0)), .int stk])), (bw, .inl (dA 1, 2, .inr (.inl (lwd 0))))] H ∧ va_D A [(bs, .inr (10, [.ref bw, .int (nI (uOf 0)), .int stk])), (bw, .inl (dA 1, 2, .inr (.inl (lwd 0))))]) A) (zX "FencedStandbys$Refused" (fun q H => ¬ nI (ac) = 0 ∧ RfP D cNP q H) (A)) (1) (7) A := by
  refine vx_ofW (cc := cX1_resends) (maxL := 4) (ret := (some .int)) (by decide) rfl ?_
  intro p e s m args below meth c s₁ B hml htab hv
  obtain ⟨rfl, hsz, hC, hP⟩ := hv
  have hx := B.exec
  have hb := B.bytes
  have hr := B.returns
  have hts := atoms_spec (ws := ws_ yX1_resends cX1_resends 4 (some .int)) B.pre
  have hts : ∀ w ∈ lw_all, w.before _ s = true := fun w h => hts w (List.mem_cons_of_mem _ h)
  have hown : s.vm.findClass RX1 = some m.cls := findClass_of_methodNamed B.named
  have hlocks := B.notSynchronized
  subst hsz
  have hK := hC.K
  have hS : va_S A s.heap s.heap [] := va_S.rf
  obtain ⟨hP, hZ⟩ := hP
  have hP : va_P D vwCl [(bs, .inr (10, [.ref bw, .int (nI (uOf Wb)), .int stk])), (bw, .inl (dA 1, 2, .inr (.inl (lwd Wb))))] s.heap := hP
  have hl := lv_entry ([.ref st, .int (nI (j))]) (n := 4) (Nat.le_of_ble_eq_true rfl)
  rw [lg_entry_eq]
  generalize (lg_sl ([.ref st, .int (nI (j))]) ++ List.replicate (4 - (lg_sl ([.ref st, .int (nI (j))])).length) Slot.unset).toArray = ls at hl ⊢
  have hl : lv_has ls 4 [(0, .ref st), (1, .int (nI (j)))] := hl
  refine lv_aload_n hx hb dX1_resends_0 rfl (lv_at hl 0 rfl) ?_
  refine lv_iload_n hx hb dX1_resends_1 rfl (lv_at hl 1 rfl) ?_
  have hSo := hS
  refine z_xVq (As := [.int (nI (j))]) (rest := []) ⟨hx, hb, hml, hown, hts⟩ (mX1_well l D dA ad s.heap.size st jn sl sa se tk tl tr lc lr ax h sy (nI (rc)) (nI (ap)) bs (nI (ac)) j (by omega) (hg) (hstr)) (cwV 1 hts (lw_V q684 q686 qs9 q55 q687) rfl rfl rfl (by decide +kernel) ⟨Nat.le_of_ble_eq_true rfl, Nat.le_of_ble_eq_true rfl⟩) hC hS (fun _ h => hA _ (Nat.le_trans hS.1 h)) ((hZ.at hS).sub (ws' := [(st, .inr (1, [.ref jn, .ref sl, .ref sa, .ref se, .int tk, .int tl, .int tr, .int lc, .int lr, .int ax])), (sa, .inl (dA 4, 2, .inr (.inr (.inr (.inr h))))), (sy, .inr (3, [.int (nI (rc)), .int (nI (ap)), .ref bs, .int (nI (ac))]))]) [0, 1, 2] rfl) (va_recv hK (hZ.at hS) (ci := 1) (q0 := 0) rfl rfl) rfl rfl hl.1 (Nat.le_of_ble_eq_true rfl) dX1_resends_2 ⟨Nat.le_of_ble_eq_true rfl, Nat.le_of_ble_eq_true rfl⟩ (fun q9 H locs hX9 hF hS => ?_) (fun r_1 H locs hQ hF hS => ?_)
  · exact z_outR htab hlocks hC.K hS hX9.2 (hX9) (by omega) (by omega)
  obtain ⟨hQ, hq1, hP1, hD1⟩ := hQ
  obtain ⟨hP, hD⟩ := z_addnew (hA_up hA hSo) hP hD hF hP1 hD1
  have hP : va_P D vwCl [(bs, .inr (10, [.ref bw, .int (nI (uOf Wb)), .int stk])), (bw, .inl (dA 1, 2, .inr (.inl (lwd Wb))))] H := hP
  have hD : va_D A [(bs, .inr (10, [.ref bw, .int (nI (uOf Wb)), .int stk])), (bw, .inl (dA 1, 2, .inr (.inl (lwd Wb))))] := hD
  obtain rfl : (some sy) = r_1 := hQ.symm
  refine lv_topv (y := .ref sy) (rfl) ?_
  refine lv_astore_n (lv' := [(2, .ref sy), (0, .ref st), (1, .int (nI (j)))]) hx hb dX1_resends_5 rfl hl (by decide) rfl (fun ls hl => ?_)
  refine lv_aload_n hx hb dX1_resends_6 rfl (lv_at hl 0 rfl) ?_
  refine va_getN (D := D) (ci := 3) (v := .ref bs) (C := RX3) (T := TX3) (N := 4) hx hb hts in_X3 hown hK (hZ.at hS) 2 rfl rfl 2 (by decide) (Cx.nF hC (List.mem_of_getElem? (i := 22) rfl)) (fun _ h9 => h9) rfl dX1_resends_7 ?_
  refine z_cVi (As := []) (rest := []) ⟨hx, hb, hml, hown, hts⟩ (mJ3_cardinality l D dA ad H.size bs bw stk Wb (by omega)) (cwV 0 hts (lw_V q705 q706 q707 q61 q708) rfl rfl rfl (by decide +kernel) ⟨Nat.le_of_ble_eq_true rfl, Nat.le_of_ble_eq_true rfl⟩) hC hS (fun _ h => hA _ (Nat.le_trans hS.1 h)) (hP.sub (ws' := [(bs, .inr (10, [.ref bw, .int (nI (uOf Wb)), .int stk])), (bw, .inl (dA 1, 2, .inr (.inl (lwd Wb))))]) [0, 1] rfl) (va_recv hK hP (ci := 10) (q0 := 0) rfl rfl) rfl rfl hl.1 (Nat.le_of_ble_eq_true rfl) dX1_resends_10 ⟨Nat.le_of_ble_eq_true rfl, Nat.le_of_ble_eq_true rfl⟩ (fun r_2 H locs hQ hF hS => ?_)
  have hP := va_P.ro hF hP
  obtain rfl : nI (pcN Wb) = r_2 := hQ.symm
  refine lv_istore_n (lv' := [(3, .int (nI (pcN Wb))), (2, .ref sy), (0, .ref st), (1, .int (nI (j)))]) hx hb dX1_resends_13 rfl hl (by decide) rfl (fun ls hl => ?_)
  refine lv_aload_n hx hb dX1_resends_14 rfl (lv_at hl 1 rfl) ?_
  refine va_getN (D := D) (ci := 3) (v := .ref bs) (C := RX3) (T := TX3) (N := 4) hx hb hts in_X3 hown hK (hZ.at hS) 2 rfl rfl 2 (by decide) (Cx.nF hC (List.mem_of_getElem? (i := 22) rfl)) (fun _ h9 => h9) rfl dX1_resends_15 ?_
  refine z_cVv (As := []) (rest := []) ⟨hx, hb, hml, hown, hts⟩ (mJ3_clear l D dA ad A H.size bs bw stk Wb (hA_up hA hS) (by omega) (hD.sub [0, 1] (by decide) rfl)) (cwV 0 hts (lw_V q719 q720 q721 q61 q722) rfl rfl rfl (by decide +kernel) ⟨Nat.le_of_ble_eq_true rfl, Nat.le_of_ble_eq_true rfl⟩) hC hS (fun _ h => h) (hP.sub (ws' := [(bs, .inr (10, [.ref bw, .int (nI (uOf Wb)), .int stk])), (bw, .inl (dA 1, 2, .inr (.inl (lwd Wb))))]) [0, 1] rfl) (va_recv hK hP (ci := 10) (q0 := 0) rfl rfl) rfl rfl hl.1 (Nat.le_of_ble_eq_true rfl) dX1_resends_18 ⟨Nat.le_of_ble_eq_true rfl, Nat.le_of_ble_eq_true rfl⟩ (fun H locs hQ hF hS => ?_)
  obtain ⟨hQ, hP⟩ := hQ
  have hD := va_D.same (ws' := [(bs, .inr (10, [.ref bw, .int (nI (uOf 0)), .int stk])), (bw, .inl (dA 1, 2, .inr (.inl (lwd 0))))]) (hD.sub (ws' := [(bs, .inr (10, [.ref bw, .int (nI (uOf Wb)), .int stk])), (bw, .inl (dA 1, 2, .inr (.inl (lwd Wb))))]) [0, 1] (by decide) rfl) rfl
  have hP : va_P D vwCl [(bs, .inr (10, [.ref bw, .int (nI (uOf 0)), .int stk])), (bw, .inl (dA 1, 2, .inr (.inl (lwd 0))))] H := hP
  have hD : va_D A [(bs, .inr (10, [.ref bw, .int (nI (uOf 0)), .int stk])), (bw, .inl (dA 1, 2, .inr (.inl (lwd 0))))] := hD
  refine lv_iload_n hx hb dX1_resends_21 rfl (lv_at hl 0 rfl) ?_
  exact vx_ret (z_iret (v := nI (pcN Wb)) hx hb hr hS (⟨rfl, hq1, hP, hD⟩) (by omega) (by omega) dX1_resends_22)

set_option maxHeartbeats 4000000 in
set_option maxRecDepth 100000 in
theorem mX1_setTo (l : Launch) (D : va_G) (dA : Nat → ClassId) (ad : Nat → Nat) (A : Nat → Prop) (sz : Nat) (st : Nat) (jn : Nat) (sl : Nat) (sa : Nat) (se : Nat) (tk : Int32) (tl : Int32) (tr : Int32) (lc : Int32) (lr : Int32) (ax : Int32) (seg : Nat → Int32) (j : Nat) (v : Int32) (hA : ∀ q, sz ≤ q → A q) (h1 : j < 2) (hD : va_D A [(se, .inl (dA 0, 2, .inl seg))]) : Met l yX1_setTo (ws_ yX1_setTo cX1_setTo 4 (some .int)) ({ frames := 1, cells := 0, slots := 0, locals := 40 }) (va_Pc [.ref st, .int (nI (j)), .int v] (zP D dA ad A sz (fun H => va_P D vwCl [(se, .inl (dA 0, 2, .inl seg))] H ∧ zFz D A [(st, .inr (1, [.ref jn, .ref sl, .ref sa, .ref se, .int tk, .int tl, .int tr, .int lc, .int lr, .int ax]))] H))) (zQi (fun rz H => rz = seg j ∧ va_P D vwCl [(se, .inl (dA 0, 2, .inl (upd seg j v)))] H) A) (0) (0) A := by
  refine Met.ofW (cc := cX1_setTo) (maxL := 4) (ret := (some .int)) (by decide) rfl ?_
  intro p e s m args below meth c s₁ B hml hv
  obtain ⟨rfl, hsz, hC, hP⟩ := hv
  have hx := B.exec
  have hb := B.bytes
  have hr := B.returns
  have hts := atoms_spec (ws := ws_ yX1_setTo cX1_setTo 4 (some .int)) B.pre
  have hts : ∀ w ∈ lw_all, w.before _ s = true := fun w h => hts w (List.mem_cons_of_mem _ h)
  have hown : s.vm.findClass RX1 = some m.cls := findClass_of_methodNamed B.named
  have hlocks := B.notSynchronized
  subst hsz
  have hK := hC.K
  have hS : va_S A s.heap s.heap [] := va_S.rf
  obtain ⟨hP, hZ⟩ := hP
  have hP : va_P D vwCl [(se, .inl (dA 0, 2, .inl seg))] s.heap := hP
  have hl := lv_entry ([.ref st, .int (nI (j)), .int v]) (n := 4) (Nat.le_of_ble_eq_true rfl)
  rw [lg_entry_eq]
  generalize (lg_sl ([.ref st, .int (nI (j)), .int v]) ++ List.replicate (4 - (lg_sl ([.ref st, .int (nI (j)), .int v])).length) Slot.unset).toArray = ls at hl ⊢
  have hl : lv_has ls 4 [(0, .ref st), (1, .int (nI (j))), (2, .int v)] := hl
  refine lv_aload_n hx hb dX1_setTo_0 rfl (lv_at hl 0 rfl) ?_
  refine va_get (D := D) (ci := 1) (v := .ref se) (C := RX1) (T := TX1) (N := 10) hx hb hts in_X1 hown hK (hZ.at hS) 0 rfl rfl 3 (by decide) (hts _ q198) (fun _ h9 => h9) rfl dX1_setTo_1 ?_
  refine lv_iload_n hx hb dX1_setTo_4 rfl (lv_at hl 1 rfl) ?_
  refine va_iald hx hb hK hP 0 0 rfl rfl (vp_in_nI (by omega) (by omega)) dX1_setTo_5 ?_
  refine lv_tope (y := seg j) (by rw [nI_clamp (by omega)]) ?_
  refine lv_istore_n (lv' := [(3, .int (seg j)), (0, .ref st), (1, .int (nI (j))), (2, .int v)]) hx hb dX1_setTo_6 rfl hl (by decide) rfl (fun ls hl => ?_)
  refine lv_aload_n hx hb dX1_setTo_7 rfl (lv_at hl 1 rfl) ?_
  refine va_get (D := D) (ci := 1) (v := .ref se) (C := RX1) (T := TX1) (N := 10) hx hb hts in_X1 hown hK (hZ.at hS) 0 rfl rfl 3 (by decide) (hts _ q198) (fun _ h9 => h9) rfl dX1_setTo_8 ?_
  refine lv_iload_n hx hb dX1_setTo_11 rfl (lv_at hl 2 rfl) ?_
  refine lv_iload_n hx hb dX1_setTo_12 rfl (lv_at hl 3 rfl) ?_
  refine va_iast hx hb hK hP hD hS 0 0 rfl rfl (vp_in_nI (by omega) (by omega)) dX1_setTo_13 (fun H locs hP hD hS => ?_)
  rw [nI_clamp (by omega)] at hP hD
  have hP : va_P D vwCl [(se, .inl (dA 0, 2, .inl (upd seg j v)))] H := hP
  have hD : va_D A [(se, .inl (dA 0, 2, .inl (upd seg j v)))] := hD
  refine lv_iload_n hx hb dX1_setTo_14 rfl (lv_at hl 0 rfl) ?_
  exact z_iret (v := seg j) hx hb hr hS (⟨rfl, hP⟩) (by omega) (by omega) dX1_setTo_15
