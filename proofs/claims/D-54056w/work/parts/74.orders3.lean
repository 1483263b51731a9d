set_option maxHeartbeats 4000000 in
set_option maxRecDepth 100000 in
theorem mX1_loses (l : Launch) (D : va_G) (dA : Nat → ClassId) (ad : Nat → Nat) (A : Nat → Prop) (sz : Nat) (st : Nat) (jn : Nat) (sl : Nat) (sa : Nat) (se : Nat) (tk : Int32) (tl : Int32) (tr : Int32) (lc : Int32) (lr : Int32) (ax : Int32) (h : Nat → Option Nat) (sy : Nat) (rc : Nat) (ap : Nat) (ac : Nat) (bs : Nat) (bw : Nat) (stk : Int32) (Wb : Nat) (j : Nat) (i : Int32) (hA : ∀ q, sz ≤ q → A q) (hW : Wb < 2 ^ 101) (h1 : j < 2) (h2 : rc ≤ 100) (h3 : ap ≤ rc) (h4 : 0 < i) (hg : h j = some sy) (hstr : l.stackTraces = false) (hD : va_D A [(st, .inr (1, [.ref jn, .ref sl, .ref sa, .ref se, .int tk, .int tl, .int tr, .int lc, .int lr, .int ax])), (bs, .inr (10, [.ref bw, .int (nI (uOf Wb)), .int stk])), (bw, .inl (dA 1, 2, .inr (.inl (lwd Wb))))]) : vx_Met l yX1_loses (ws_ yX1_loses cX1_loses 4 (some .int)) ({ frames := 7, cells := 2, slots := 14, locals := 200 }) (va_Pc [.ref st, .int (nI (j)), .int i] (zP D dA ad A sz (fun H => va_P D vwCl [(st, .inr (1, [.ref jn, .ref sl, .ref sa, .ref se, .int tk, .int tl, .int tr, .int lc, .int lr, .int ax])), (bs, .inr (10, [.ref bw, .int (nI (uOf Wb)), .int stk])), (bw, .inl (dA 1, 2, .inr (.inl (lwd Wb))))] H ∧ zFz D A [(sa, .inl (dA 4, 2, .inr (.inr (.inr (.inr h))))), (sy, .inr (3, [.int (nI (rc)), .int (nI (ap)), .ref bs, .int (nI (ac))]))] H))) (zQi (fun rz H => rz = nI (pcN (Wb ||| 2 ^ i.toNatClampNeg)) ∧ nI (ac) = 0 ∧ i ≤ nI (rc) ∧ ¬ i ≤ nI (ap) ∧ ¬ Wb.testBit i.toNatClampNeg = true ∧ va_P D vwCl [(st, .inr (1, [.ref jn, .ref sl, .ref sa, .ref se, .int tk, .int tl, .int tr, .int lc, .int (lr + nI (1)), .int ax])), (bs, .inr (10, [.ref bw, .int (nI (uOf (Wb ||| 2 ^ i.toNatClampNeg))), .int stk])), (bw, .inl (dA 1, 2, .inr (.inl (lwd (Wb ||| 2 ^ i.toNatClampNeg)))))] H ∧ va_D A [(st, .inr (1, [.ref jn, .ref sl, .ref sa, .ref se, .int tk, .int tl, .int tr, .int lc, .int (lr + nI (1)), .int ax])), (bs, .inr (10, [.ref bw, .int (nI (uOf (Wb ||| 2 ^ i.toNatClampNeg))), .int stk])), (bw, .inl (dA 1, 2, .inr (.inl (lwd (Wb ||| 2 ^ i.toNatClampNeg)))))]) A) (zX "FencedStandbys$Refused" (fun q H => (¬ nI (ac) = 0 ∨ nI (rc) < i ∨ i ≤ nI (ap) ∨ Wb.testBit i.toNatClampNeg = true) ∧ RfP D cNP q H) (A)) (2) (14) A := by
  refine vx_ofW (cc := cX1_loses) (maxL := 4) (ret := (some .int)) (by decide) rfl ?_
  intro p e s m args below meth c s₁ B hml htab hv
  obtain ⟨rfl, hsz, hC, hP⟩ := hv
  have hx := B.exec
  have hb := B.bytes
  have hr := B.returns
  have hts := atoms_spec (ws := ws_ yX1_loses cX1_loses 4 (some .int)) B.pre
  have hts : ∀ w ∈ lw_all, w.before _ s = true := fun w h => hts w (List.mem_cons_of_mem _ h)
  have hown : s.vm.findClass RX1 = some m.cls := findClass_of_methodNamed B.named
  have hlocks := B.notSynchronized
  subst hsz
  have hK := hC.K
  have hS : va_S A s.heap s.heap [] := va_S.rf
  obtain ⟨hP, hZ⟩ := hP
  have hP : va_P D vwCl [(st, .inr (1, [.ref jn, .ref sl, .ref sa, .ref se, .int tk, .int tl, .int tr, .int lc, .int lr, .int ax])), (bs, .inr (10, [.ref bw, .int (nI (uOf Wb)), .int stk])), (bw, .inl (dA 1, 2, .inr (.inl (lwd Wb))))] s.heap := hP
  have hl := lv_entry ([.ref st, .int (nI (j)), .int i]) (n := 4) (Nat.le_of_ble_eq_true rfl)
  rw [lg_entry_eq]
  generalize (lg_sl ([.ref st, .int (nI (j)), .int i]) ++ List.replicate (4 - (lg_sl ([.ref st, .int (nI (j)), .int i])).length) Slot.unset).toArray = ls at hl ⊢
  have hl : lv_has ls 4 [(0, .ref st), (1, .int (nI (j))), (2, .int i)] := hl
  refine lv_aload_n hx hb dX1_loses_0 rfl (lv_at hl 0 rfl) ?_
  refine lv_iload_n hx hb dX1_loses_1 rfl (lv_at hl 1 rfl) ?_
  have hSo := hS
  refine z_xVq (As := [.int (nI (j))]) (rest := []) ⟨hx, hb, hml, hown, hts⟩ (mX1_well l D dA ad s.heap.size st jn sl sa se tk tl tr lc lr ax h sy (nI (rc)) (nI (ap)) bs (nI (ac)) j (by omega) (hg) (hstr)) (cwV 1 hts (lw_V q684 q686 qs9 q55 q687) rfl rfl rfl (by decide +kernel) ⟨Nat.le_of_ble_eq_true rfl, Nat.le_of_ble_eq_true rfl⟩) hC hS (fun _ h => hA _ (Nat.le_trans hS.1 h)) ((hP.app (hZ.at hS)).sub (ws' := [(st, .inr (1, [.ref jn, .ref sl, .ref sa, .ref se, .int tk, .int tl, .int tr, .int lc, .int lr, .int ax])), (sa, .inl (dA 4, 2, .inr (.inr (.inr (.inr h))))), (sy, .inr (3, [.int (nI (rc)), .int (nI (ap)), .ref bs, .int (nI (ac))]))]) [0, 3, 4] rfl) (va_recv hK hP (ci := 1) (q0 := 0) rfl rfl) rfl rfl hl.1 (Nat.le_of_ble_eq_true rfl) dX1_loses_2 ⟨Nat.le_of_ble_eq_true rfl, Nat.le_of_ble_eq_true rfl⟩ (fun q9 H locs hX9 hF hS => ?_) (fun r_1 H locs hQ hF hS => ?_)
  · exact z_outR htab hlocks hC.K hS hX9.2 (⟨Or.inl hX9.1, hX9.2⟩) (by omega) (by omega)
  obtain ⟨hQ, hq1, hP1, hD1⟩ := hQ
  obtain ⟨hP, hD⟩ := z_addnew (hA_up hA hSo) hP hD hF hP1 hD1
  have hP : va_P D vwCl [(st, .inr (1, [.ref jn, .ref sl, .ref sa, .ref se, .int tk, .int tl, .int tr, .int lc, .int lr, .int ax])), (bs, .inr (10, [.ref bw, .int (nI (uOf Wb)), .int stk])), (bw, .inl (dA 1, 2, .inr (.inl (lwd Wb))))] H := hP
  have hD : va_D A [(st, .inr (1, [.ref jn, .ref sl, .ref sa, .ref se, .int tk, .int tl, .int tr, .int lc, .int lr, .int ax])), (bs, .inr (10, [.ref bw, .int (nI (uOf Wb)), .int stk])), (bw, .inl (dA 1, 2, .inr (.inl (lwd Wb))))] := hD
  obtain rfl : (some sy) = r_1 := hQ.symm
  refine lv_topv (y := .ref sy) (rfl) ?_
  refine lv_astore_n (lv' := [(3, .ref sy), (0, .ref st), (1, .int (nI (j))), (2, .int i)]) hx hb dX1_loses_5 rfl hl (by decide) rfl (fun ls hl => ?_)
  refine lv_iload_n hx hb dX1_loses_6 rfl (lv_at hl 3 rfl) ?_
  refine lv_aload_n hx hb dX1_loses_7 rfl (lv_at hl 0 rfl) ?_
  refine va_getN (D := D) (ci := 3) (v := .int (nI (rc))) (C := RX3) (T := TX3) (N := 4) hx hb hts in_X3 hown hK (hZ.at hS) 1 rfl rfl 0 (by decide) (Cx.nF hC (List.mem_of_getElem? (i := 20) rfl)) (fun _ h9 => h9) rfl dX1_loses_8 ?_
  refine lv_icmp_gt (tgt := 33) hx hb dX1_loses_11 (by decide) (fun c_2 => ?_) (fun c_2 => ?_)
  · refine z_newM (D := D) (ci := 5) (fs := [.null, .null, .null, .null, .null, .int 0, .int 0]) (C := RX5) (T := TX5) (N := 7) hx hb hts in_X5 tyX5 tyX5_ok hown (hts _ q625) (hts _ q555) (hts _ q78) hK hP hD hS hA rfl (fun j hj => by match j, hj with | 0, _ => rfl | 1, _ => rfl | 2, _ => rfl | 3, _ => rfl | 4, _ => rfl | 5, _ => rfl | 6, _ => rfl | j + 7, hj => exact absurd hj (by omega)) (by first | exact Nat.le_of_ble_eq_true rfl | (show _ ≤ _; simp only [headSpec]; omega)) (by first | exact Nat.le_of_ble_eq_true rfl | (show _ ≤ _; simp only [headSpec]; omega)) dX1_loses_33 (fun q1 H hP hD hS hM9 => ?_)
    have hP : va_P D vwCl [(st, .inr (1, [.ref jn, .ref sl, .ref sa, .ref se, .int tk, .int tl, .int tr, .int lc, .int lr, .int ax])), (bs, .inr (10, [.ref bw, .int (nI (uOf Wb)), .int stk])), (bw, .inl (dA 1, 2, .inr (.inl (lwd Wb)))), (q1, .inr (5, [.null, .null, .null, .null, .null, .int 0, .int 0]))] H := hP
    have hD : va_D A [(st, .inr (1, [.ref jn, .ref sl, .ref sa, .ref se, .int tk, .int tl, .int tr, .int lc, .int lr, .int ax])), (bs, .inr (10, [.ref bw, .int (nI (uOf Wb)), .int stk])), (bw, .inl (dA 1, 2, .inr (.inl (lwd Wb)))), (q1, .inr (5, [.null, .null, .null, .null, .null, .int 0, .int 0]))] := hD
    refine lv_dup hx hb dX1_loses_36 rfl ?_
    refine lv_ldc (v := (-1000002)) hx hb hown (hts _ q626) dX1_loses_37 ?_
    have hDc := (hD.sub (ws' := [(q1, .inr (5, [.null, .null, .null, .null, .null, .int 0, .int 0]))]) [3] (by decide) rfl).self (sz := H.size)
    have hFc := va_free (wc := [(q1, .inr (5, [.null, .null, .null, .null, .null, .int 0, .int 0]))]) hD hS hA [3] rfl
    refine z_cIv (As := [.int (-1000002)]) (rest := [.ref q1]) ⟨hx, hb, hml, hown, hts⟩ (mX5_init l D dA ad (va_A [(q1, .inr (5, [.null, .null, .null, .null, .null, .int 0, .int 0]))] H.size) H.size q1 (-1000002) (fun _ h => Or.inr h) (hstr) hDc) (cwI 1 hts (lw_meth q595) rfl rfl rfl (hts _ q78) (hts _ q627) (hts _ q594) rfl (by decide +kernel) ⟨Nat.le_of_ble_eq_true rfl, Nat.le_of_ble_eq_true rfl⟩) hC hS (hFc) ⟨(hP.sub (ws' := [(q1, .inr (5, [.null, .null, .null, .null, .null, .int 0, .int 0]))]) [3] rfl), hM9⟩ rfl rfl hl.1 (Nat.le_of_ble_eq_true rfl) dX1_loses_39 ⟨Nat.le_of_ble_eq_true rfl, Nat.le_of_ble_eq_true rfl⟩ (fun H locs hQ hF hS => ?_)
    obtain ⟨ru_4, rs_5, hQ, hP1, hD1⟩ := hQ
    obtain ⟨hP, hD⟩ := va_join (wr := [(st, .inr (1, [.ref jn, .ref sl, .ref sa, .ref se, .int tk, .int tl, .int tr, .int lc, .int lr, .int ax])), (bs, .inr (10, [.ref bw, .int (nI (uOf Wb)), .int stk])), (bw, .inl (dA 1, 2, .inr (.inl (lwd Wb))))]) (w1 := [(q1, .inr (5, [.ref q1, va_rf ru_4, va_rf rs_5, .ref (ad (10 + 1)), .null, .int 0, .int (-1000002)]))]) hP hD [3] [0, 1, 2] rfl rfl (by decide) (by decide) hF.2 hFc hP1 hD1
    have hP : va_P D vwCl [(st, .inr (1, [.ref jn, .ref sl, .ref sa, .ref se, .int tk, .int tl, .int tr, .int lc, .int lr, .int ax])), (bs, .inr (10, [.ref bw, .int (nI (uOf Wb)), .int stk])), (bw, .inl (dA 1, 2, .inr (.inl (lwd Wb)))), (q1, .inr (5, [.ref q1, va_rf ru_4, va_rf rs_5, .ref (ad (10 + 1)), .null, .int 0, .int (-1000002)]))] H := hP
    have hD : va_D A [(st, .inr (1, [.ref jn, .ref sl, .ref sa, .ref se, .int tk, .int tl, .int tr, .int lc, .int lr, .int ax])), (bs, .inr (10, [.ref bw, .int (nI (uOf Wb)), .int stk])), (bw, .inl (dA 1, 2, .inr (.inl (lwd Wb)))), (q1, .inr (5, [.ref q1, va_rf ru_4, va_rf rs_5, .ref (ad (10 + 1)), .null, .int 0, .int (-1000002)]))] := hD
    refine z_athrow hx hb dX1_loses_42 ?_
    have hX9 : RfP D (-1000002) q1 H := ⟨_, _, _, _, _, _, hP 3 _ rfl⟩
    exact z_outR htab hlocks hC.K hS hX9 (⟨Or.inr (Or.inl c_2), hX9⟩) (by omega) (by omega)
  · obtain ⟨r, hr5, rfl⟩ := zr_of (k := i) (N := rc) ⟨Int32.le_of_lt (show nI 0 < i from h4), Int32.not_lt.1 c_2⟩ (by omega)
    have hr1 : 1 ≤ r := (nI_ltI (by omega) (by omega)).1 (show nI 0 < nI r from h4)
    have hcl : (nI r).toNatClampNeg = r := nI_clamp (by omega)
    refine lv_iload_n hx hb dX1_loses_14 rfl (lv_at hl 3 rfl) ?_
    refine lv_aload_n hx hb dX1_loses_15 rfl (lv_at hl 0 rfl) ?_
    refine va_getN (D := D) (ci := 3) (v := .int (nI (ap))) (C := RX3) (T := TX3) (N := 4) hx hb hts in_X3 hown hK (hZ.at hS) 1 rfl rfl 1 (by decide) (Cx.nF hC (List.mem_of_getElem? (i := 21) rfl)) (fun _ h9 => h9) rfl dX1_loses_16 ?_
    refine lv_icmp_le (tgt := 33) hx hb dX1_loses_19 (by decide) (fun c_6 => ?_) (fun c_6 => ?_)
    · have c_6 := (nI_leI (by omega) (by omega)).1 c_6
      refine z_newM (D := D) (ci := 5) (fs := [.null, .null, .null, .null, .null, .int 0, .int 0]) (C := RX5) (T := TX5) (N := 7) hx hb hts in_X5 tyX5 tyX5_ok hown (hts _ q625) (hts _ q555) (hts _ q78) hK hP hD hS hA rfl (fun j hj => by match j, hj with | 0, _ => rfl | 1, _ => rfl | 2, _ => rfl | 3, _ => rfl | 4, _ => rfl | 5, _ => rfl | 6, _ => rfl | j + 7, hj => exact absurd hj (by omega)) (by first | exact Nat.le_of_ble_eq_true rfl | (show _ ≤ _; simp only [headSpec]; omega)) (by first | exact Nat.le_of_ble_eq_true rfl | (show _ ≤ _; simp only [headSpec]; omega)) dX1_loses_33 (fun q1 H hP hD hS hM9 => ?_)
      have hP : va_P D vwCl [(st, .inr (1, [.ref jn, .ref sl, .ref sa, .ref se, .int tk, .int tl, .int tr, .int lc, .int lr, .int ax])), (bs, .inr (10, [.ref bw, .int (nI (uOf Wb)), .int stk])), (bw, .inl (dA 1, 2, .inr (.inl (lwd Wb)))), (q1, .inr (5, [.null, .null, .null, .null, .null, .int 0, .int 0]))] H := hP
      have hD : va_D A [(st, .inr (1, [.ref jn, .ref sl, .ref sa, .ref se, .int tk, .int tl, .int tr, .int lc, .int lr, .int ax])), (bs, .inr (10, [.ref bw, .int (nI (uOf Wb)), .int stk])), (bw, .inl (dA 1, 2, .inr (.inl (lwd Wb)))), (q1, .inr (5, [.null, .null, .null, .null, .null, .int 0, .int 0]))] := hD
      refine lv_dup hx hb dX1_loses_36 rfl ?_
      refine lv_ldc (v := (-1000002)) hx hb hown (hts _ q626) dX1_loses_37 ?_
      have hDc := (hD.sub (ws' := [(q1, .inr (5, [.null, .null, .null, .null, .null, .int 0, .int 0]))]) [3] (by decide) rfl).self (sz := H.size)
      have hFc := va_free (wc := [(q1, .inr (5, [.null, .null, .null, .null, .null, .int 0, .int 0]))]) hD hS hA [3] rfl
      refine z_cIv (As := [.int (-1000002)]) (rest := [.ref q1]) ⟨hx, hb, hml, hown, hts⟩ (mX5_init l D dA ad (va_A [(q1, .inr (5, [.null, .null, .null, .null, .null, .int 0, .int 0]))] H.size) H.size q1 (-1000002) (fun _ h => Or.inr h) (hstr) hDc) (cwI 1 hts (lw_meth q595) rfl rfl rfl (hts _ q78) (hts _ q627) (hts _ q594) rfl (by decide +kernel) ⟨Nat.le_of_ble_eq_true rfl, Nat.le_of_ble_eq_true rfl⟩) hC hS (hFc) ⟨(hP.sub (ws' := [(q1, .inr (5, [.null, .null, .null, .null, .null, .int 0, .int 0]))]) [3] rfl), hM9⟩ rfl rfl hl.1 (Nat.le_of_ble_eq_true rfl) dX1_loses_39 ⟨Nat.le_of_ble_eq_true rfl, Nat.le_of_ble_eq_true rfl⟩ (fun H locs hQ hF hS => ?_)
      obtain ⟨ru_8, rs_9, hQ, hP1, hD1⟩ := hQ
      obtain ⟨hP, hD⟩ := va_join (wr := [(st, .inr (1, [.ref jn, .ref sl, .ref sa, .ref se, .int tk, .int tl, .int tr, .int lc, .int lr, .int ax])), (bs, .inr (10, [.ref bw, .int (nI (uOf Wb)), .int stk])), (bw, .inl (dA 1, 2, .inr (.inl (lwd Wb))))]) (w1 := [(q1, .inr (5, [.ref q1, va_rf ru_8, va_rf rs_9, .ref (ad (10 + 1)), .null, .int 0, .int (-1000002)]))]) hP hD [3] [0, 1, 2] rfl rfl (by decide) (by decide) hF.2 hFc hP1 hD1
      have hP : va_P D vwCl [(st, .inr (1, [.ref jn, .ref sl, .ref sa, .ref se, .int tk, .int tl, .int tr, .int lc, .int lr, .int ax])), (bs, .inr (10, [.ref bw, .int (nI (uOf Wb)), .int stk])), (bw, .inl (dA 1, 2, .inr (.inl (lwd Wb)))), (q1, .inr (5, [.ref q1, va_rf ru_8, va_rf rs_9, .ref (ad (10 + 1)), .null, .int 0, .int (-1000002)]))] H := hP
      have hD : va_D A [(st, .inr (1, [.ref jn, .ref sl, .ref sa, .ref se, .int tk, .int tl, .int tr, .int lc, .int lr, .int ax])), (bs, .inr (10, [.ref bw, .int (nI (uOf Wb)), .int stk])), (bw, .inl (dA 1, 2, .inr (.inl (lwd Wb)))), (q1, .inr (5, [.ref q1, va_rf ru_8, va_rf rs_9, .ref (ad (10 + 1)), .null, .int 0, .int (-1000002)]))] := hD
      refine z_athrow hx hb dX1_loses_42 ?_
      have hX9 : RfP D (-1000002) q1 H := ⟨_, _, _, _, _, _, hP 3 _ rfl⟩
      exact z_outR htab hlocks hC.K hS hX9 (⟨Or.inr (Or.inr (Or.inl (nI_le c_6 (by omega)))), hX9⟩) (by omega) (by omega)
    · have c_6 := mt (nI_leI (by omega) (by omega)).2 c_6
      have hq3 : ¬ nI r ≤ nI ap := fun q => c_6 ((nI_leI (by omega) (by omega)).1 q)
      refine lv_aload_n hx hb dX1_loses_22 rfl (lv_at hl 0 rfl) ?_
      refine va_getN (D := D) (ci := 3) (v := .ref bs) (C := RX3) (T := TX3) (N := 4) hx hb hts in_X3 hown hK (hZ.at hS) 1 rfl rfl 2 (by decide) (Cx.nF hC (List.mem_of_getElem? (i := 22) rfl)) (fun _ h9 => h9) rfl dX1_loses_23 ?_
      refine lv_iload_n hx hb dX1_loses_26 rfl (lv_at hl 3 rfl) ?_
      refine z_cVi (As := [.int (nI (r))]) (rest := []) ⟨hx, hb, hml, hown, hts⟩ (mJ3_get l D dA ad H.size bs bw stk Wb r (by omega) (by omega)) (cwV 1 hts (lw_V q693 q694 q695 q61 q696) rfl rfl rfl (by decide +kernel) ⟨Nat.le_of_ble_eq_true rfl, Nat.le_of_ble_eq_true rfl⟩) hC hS (fun _ h => hA _ (Nat.le_trans hS.1 h)) (hP.sub (ws' := [(bs, .inr (10, [.ref bw, .int (nI (uOf Wb)), .int stk])), (bw, .inl (dA 1, 2, .inr (.inl (lwd Wb))))]) [1, 2] rfl) (va_recv hK hP (ci := 10) (q0 := 1) rfl rfl) rfl rfl hl.1 (Nat.le_of_ble_eq_true rfl) dX1_loses_27 ⟨Nat.le_of_ble_eq_true rfl, Nat.le_of_ble_eq_true rfl⟩ (fun r_10 H locs hQ hF hS => ?_)
      have hP := va_P.ro hF hP
      obtain rfl : bI (Wb.testBit r = true) = r_10 := hQ.symm
      refine lv_if_eq (tgt := 43) hx hb dX1_loses_30 (by decide) (fun c_11 => ?_) (fun c_11 => ?_)
      · have c_11 := bI_0.1 c_11
        refine lv_aload_n hx hb dX1_loses_43 rfl (lv_at hl 0 rfl) ?_
        refine va_getN (D := D) (ci := 3) (v := .ref bs) (C := RX3) (T := TX3) (N := 4) hx hb hts in_X3 hown hK (hZ.at hS) 1 rfl rfl 2 (by decide) (Cx.nF hC (List.mem_of_getElem? (i := 22) rfl)) (fun _ h9 => h9) rfl dX1_loses_44 ?_
        refine lv_iload_n hx hb dX1_loses_47 rfl (lv_at hl 3 rfl) ?_
        have hDc := (hD.sub (ws' := [(bs, .inr (10, [.ref bw, .int (nI (uOf Wb)), .int stk])), (bw, .inl (dA 1, 2, .inr (.inl (lwd Wb))))]) [1, 2] (by decide) rfl).self (sz := H.size)
        have hFc := va_free (wc := [(bs, .inr (10, [.ref bw, .int (nI (uOf Wb)), .int stk])), (bw, .inl (dA 1, 2, .inr (.inl (lwd Wb))))]) hD hS hA [1, 2] rfl
        refine z_cVv (As := [.int (nI (r))]) (rest := []) ⟨hx, hb, hml, hown, hts⟩ (mJ3_set l D dA ad (va_A [(bs, .inr (10, [.ref bw, .int (nI (uOf Wb)), .int stk])), (bw, .inl (dA 1, 2, .inr (.inl (lwd Wb))))] H.size) H.size bs bw stk Wb r (fun _ h => Or.inr h) (by omega) (by omega) hDc) (cwV 1 hts (lw_V q697 q698 q699 q61 q700) rfl rfl rfl (by decide +kernel) ⟨Nat.le_of_ble_eq_true rfl, Nat.le_of_ble_eq_true rfl⟩) hC hS (hFc) (hP.sub (ws' := [(bs, .inr (10, [.ref bw, .int (nI (uOf Wb)), .int stk])), (bw, .inl (dA 1, 2, .inr (.inl (lwd Wb))))]) [1, 2] rfl) (va_recv hK hP (ci := 10) (q0 := 1) rfl rfl) rfl rfl hl.1 (Nat.le_of_ble_eq_true rfl) dX1_loses_48 ⟨Nat.le_of_ble_eq_true rfl, Nat.le_of_ble_eq_true rfl⟩ (fun H locs hQ hF hS => ?_)
        obtain ⟨hQ, hP1⟩ := hQ
        obtain ⟨hP, hD⟩ := va_join (wr := [(st, .inr (1, [.ref jn, .ref sl, .ref sa, .ref se, .int tk, .int tl, .int tr, .int lc, .int lr, .int ax]))]) (w1 := [(bs, .inr (10, [.ref bw, .int (nI (uOf (Wb ||| 2 ^ r))), .int stk])), (bw, .inl (dA 1, 2, .inr (.inl (lwd (Wb ||| 2 ^ r)))))]) hP hD [1, 2] [0] rfl rfl (by decide) (by decide) hF.2 hFc hP1 (hDc.same rfl)
        have hP := hP.sub (ws' := [(st, .inr (1, [.ref jn, .ref sl, .ref sa, .ref se, .int tk, .int tl, .int tr, .int lc, .int lr, .int ax])), (bs, .inr (10, [.ref bw, .int (nI (uOf (Wb ||| 2 ^ r))), .int stk])), (bw, .inl (dA 1, 2, .inr (.inl (lwd (Wb ||| 2 ^ r)))))]) [0, 1, 2] rfl
        have hD := hD.sub (ws' := [(st, .inr (1, [.ref jn, .ref sl, .ref sa, .ref se, .int tk, .int tl, .int tr, .int lc, .int lr, .int ax])), (bs, .inr (10, [.ref bw, .int (nI (uOf (Wb ||| 2 ^ r))), .int stk])), (bw, .inl (dA 1, 2, .inr (.inl (lwd (Wb ||| 2 ^ r)))))]) [0, 1, 2] (by decide) rfl
        refine lv_aload_n hx hb dX1_loses_51 rfl (lv_at hl 1 rfl) ?_
        refine lv_dup hx hb dX1_loses_52 rfl ?_
        refine va_get (D := D) (ci := 1) (v := .int lr) (C := RX1) (T := TX1) (N := 10) hx hb hts in_X1 hown hK hP 0 rfl rfl 8 (by decide) (hts _ q208) (fun _ h9 => h9) rfl dX1_loses_53 ?_
        refine lv_iconst (v := nI (1)) hx hb dX1_loses_56 (by decide) ?_
        refine lv_iadd hx hb dX1_loses_57 ?_
        refine va_put (D := D) (ci := 1) (v := .int (lr + (nI (1)))) (ty := .int) (C := RX1) (T := TX1) (N := 10) hx hb hts in_X1 tyX1 tyX1_ok nmX1 hown hK hP hD hS 0 rfl rfl 8 (by decide) (hts _ q208) (fun _ h9 => h9) rfl (by decide +kernel) rfl rfl (Nat.le_of_ble_eq_true rfl) dX1_loses_58 (fun H locs hP hD hS => ?_)
        have hP : va_P D vwCl [(st, .inr (1, [.ref jn, .ref sl, .ref sa, .ref se, .int tk, .int tl, .int tr, .int lc, .int (lr + (nI (1))), .int ax])), (bs, .inr (10, [.ref bw, .int (nI (uOf (Wb ||| 2 ^ r))), .int stk])), (bw, .inl (dA 1, 2, .inr (.inl (lwd (Wb ||| 2 ^ r)))))] H := hP
        have hD : va_D A [(st, .inr (1, [.ref jn, .ref sl, .ref sa, .ref se, .int tk, .int tl, .int tr, .int lc, .int (lr + (nI (1))), .int ax])), (bs, .inr (10, [.ref bw, .int (nI (uOf (Wb ||| 2 ^ r))), .int stk])), (bw, .inl (dA 1, 2, .inr (.inl (lwd (Wb ||| 2 ^ r)))))] := hD
        refine lv_aload_n hx hb dX1_loses_61 rfl (lv_at hl 0 rfl) ?_
        refine va_getN (D := D) (ci := 3) (v := .ref bs) (C := RX3) (T := TX3) (N := 4) hx hb hts in_X3 hown hK (hZ.at hS) 1 rfl rfl 2 (by decide) (Cx.nF hC (List.mem_of_getElem? (i := 22) rfl)) (fun _ h9 => h9) rfl dX1_loses_62 ?_
        refine z_cVi (As := []) (rest := []) ⟨hx, hb, hml, hown, hts⟩ (mJ3_cardinality l D dA ad H.size bs bw stk (Wb ||| 2 ^ r) (Nat.or_lt_two_pow hW (Nat.pow_lt_pow_right (by decide) (by omega)))) (cwV 0 hts (lw_V q705 q706 q707 q61 q708) rfl rfl rfl (by decide +kernel) ⟨Nat.le_of_ble_eq_true rfl, Nat.le_of_ble_eq_true rfl⟩) hC hS (fun _ h => hA _ (Nat.le_trans hS.1 h)) (hP.sub (ws' := [(bs, .inr (10, [.ref bw, .int (nI (uOf (Wb ||| 2 ^ r))), .int stk])), (bw, .inl (dA 1, 2, .inr (.inl (lwd (Wb ||| 2 ^ r)))))]) [1, 2] rfl) (va_recv hK hP (ci := 10) (q0 := 1) rfl rfl) rfl rfl hl.1 (Nat.le_of_ble_eq_true rfl) dX1_loses_65 ⟨Nat.le_of_ble_eq_true rfl, Nat.le_of_ble_eq_true rfl⟩ (fun r_13 H locs hQ hF hS => ?_)
        have hP := va_P.ro hF hP
        obtain rfl : nI (pcN (Wb ||| 2 ^ r)) = r_13 := hQ.symm
        exact vx_ret (z_iret (v := nI (pcN (Wb ||| 2 ^ r))) hx hb hr hS (by rw [hcl]; exact ⟨rfl, hq1, nI_le hr5 (by omega), hq3, c_11, hP.sub [0, 1, 2] rfl, hD.sub [0, 1, 2] (by decide) rfl⟩) (by omega) (by omega) dX1_loses_68)
      · have c_11 := bI_1.1 c_11
        refine z_newM (D := D) (ci := 5) (fs := [.null, .null, .null, .null, .null, .int 0, .int 0]) (C := RX5) (T := TX5) (N := 7) hx hb hts in_X5 tyX5 tyX5_ok hown (hts _ q625) (hts _ q555) (hts _ q78) hK hP hD hS hA rfl (fun j hj => by match j, hj with | 0, _ => rfl | 1, _ => rfl | 2, _ => rfl | 3, _ => rfl | 4, _ => rfl | 5, _ => rfl | 6, _ => rfl | j + 7, hj => exact absurd hj (by omega)) (by first | exact Nat.le_of_ble_eq_true rfl | (show _ ≤ _; simp only [headSpec]; omega)) (by first | exact Nat.le_of_ble_eq_true rfl | (show _ ≤ _; simp only [headSpec]; omega)) dX1_loses_33 (fun q1 H hP hD hS hM9 => ?_)
        have hP : va_P D vwCl [(st, .inr (1, [.ref jn, .ref sl, .ref sa, .ref se, .int tk, .int tl, .int tr, .int lc, .int lr, .int ax])), (bs, .inr (10, [.ref bw, .int (nI (uOf Wb)), .int stk])), (bw, .inl (dA 1, 2, .inr (.inl (lwd Wb)))), (q1, .inr (5, [.null, .null, .null, .null, .null, .int 0, .int 0]))] H := hP
        have hD : va_D A [(st, .inr (1, [.ref jn, .ref sl, .ref sa, .ref se, .int tk, .int tl, .int tr, .int lc, .int lr, .int ax])), (bs, .inr (10, [.ref bw, .int (nI (uOf Wb)), .int stk])), (bw, .inl (dA 1, 2, .inr (.inl (lwd Wb)))), (q1, .inr (5, [.null, .null, .null, .null, .null, .int 0, .int 0]))] := hD
        refine lv_dup hx hb dX1_loses_36 rfl ?_
        refine lv_ldc (v := (-1000002)) hx hb hown (hts _ q626) dX1_loses_37 ?_
        have hDc := (hD.sub (ws' := [(q1, .inr (5, [.null, .null, .null, .null, .null, .int 0, .int 0]))]) [3] (by decide) rfl).self (sz := H.size)
        have hFc := va_free (wc := [(q1, .inr (5, [.null, .null, .null, .null, .null, .int 0, .int 0]))]) hD hS hA [3] rfl
        refine z_cIv (As := [.int (-1000002)]) (rest := [.ref q1]) ⟨hx, hb, hml, hown, hts⟩ (mX5_init l D dA ad (va_A [(q1, .inr (5, [.null, .null, .null, .null, .null, .int 0, .int 0]))] H.size) H.size q1 (-1000002) (fun _ h => Or.inr h) (hstr) hDc) (cwI 1 hts (lw_meth q595) rfl rfl rfl (hts _ q78) (hts _ q627) (hts _ q594) rfl (by decide +kernel) ⟨Nat.le_of_ble_eq_true rfl, Nat.le_of_ble_eq_true rfl⟩) hC hS (hFc) ⟨(hP.sub (ws' := [(q1, .inr (5, [.null, .null, .null, .null, .null, .int 0, .int 0]))]) [3] rfl), hM9⟩ rfl rfl hl.1 (Nat.le_of_ble_eq_true rfl) dX1_loses_39 ⟨Nat.le_of_ble_eq_true rfl, Nat.le_of_ble_eq_true rfl⟩ (fun H locs hQ hF hS => ?_)
        obtain ⟨ru_15, rs_16, hQ, hP1, hD1⟩ := hQ
        obtain ⟨hP, hD⟩ := va_join (wr := [(st, .inr (1, [.ref jn, .ref sl, .ref sa, .ref se, .int tk, .int tl, .int tr, .int lc, .int lr, .int ax])), (bs, .inr (10, [.ref bw, .int (nI (uOf Wb)), .int stk])), (bw, .inl (dA 1, 2, .inr (.inl (lwd Wb))))]) (w1 := [(q1, .inr (5, [.ref q1, va_rf ru_15, va_rf rs_16, .ref (ad (10 + 1)), .null, .int 0, .int (-1000002)]))]) hP hD [3] [0, 1, 2] rfl rfl (by decide) (by decide) hF.2 hFc hP1 hD1
        have hP : va_P D vwCl [(st, .inr (1, [.ref jn, .ref sl, .ref sa, .ref se, .int tk, .int tl, .int tr, .int lc, .int lr, .int ax])), (bs, .inr (10, [.ref bw, .int (nI (uOf Wb)), .int stk])), (bw, .inl (dA 1, 2, .inr (.inl (lwd Wb)))), (q1, .inr (5, [.ref q1, va_rf ru_15, va_rf rs_16, .ref (ad (10 + 1)), .null, .int 0, .int (-1000002)]))] H := hP
        have hD : va_D A [(st, .inr (1, [.ref jn, .ref sl, .ref sa, .ref se, .int tk, .int tl, .int tr, .int lc, .int lr, .int ax])), (bs, .inr (10, [.ref bw, .int (nI (uOf Wb)), .int stk])), (bw, .inl (dA 1, 2, .inr (.inl (lwd Wb)))), (q1, .inr (5, [.ref q1, va_rf ru_15, va_rf rs_16, .ref (ad (10 + 1)), .null, .int 0, .int (-1000002)]))] := hD
        refine z_athrow hx hb dX1_loses_42 ?_
        have hX9 : RfP D (-1000002) q1 H := ⟨_, _, _, _, _, _, hP 3 _ rfl⟩
        exact z_outR htab hlocks hC.K hS hX9 (⟨Or.inr (Or.inr (Or.inr (by rw [hcl]; exact c_11))), hX9⟩) (by omega) (by omega)

set_option maxHeartbeats 4000000 in
set_option maxRecDepth 100000 in
theorem mX1_rebuilds (l : Launch) (D : va_G) (dA : Nat → ClassId) (ad : Nat → Nat) (A : Nat → Prop) (sz : Nat) (st : Nat) (jn : Nat) (sl : Nat) (sa : Nat) (se : Nat) (tk : Int32) (tl : Int32) (tr : Int32) (lc : Int32) (lr : Int32) (ax : Int32) (h : Nat → Option Nat) (al : Nat) (mc : Int32) (ae : Nat) (n : Nat) (sy : Nat) (x0 : Int32) (x1 : Int32) (x2 : Option Nat) (x3 : Int32) (j : Nat) (hA : ∀ q, sz ≤ q → A q) (h1 : j < 2) (hg : h j = some sy) (hD : va_D A [(sy, .inr (3, [.int x0, .int x1, va_rf x2, .int x3]))]) : Met l yX1_rebuilds (ws_ yX1_rebuilds cX1_rebuilds 2 (some .int)) ({ frames := 6, cells := 2, slots := 5, locals := 150 }) (va_Pc [.ref st, .int (nI (j))] (zP D dA ad A sz (fun H => va_P D vwCl [(sy, .inr (3, [.int x0, .int x1, va_rf x2, .int x3]))] H ∧ zFz D A [(st, .inr (1, [.ref jn, .ref sl, .ref sa, .ref se, .int tk, .int tl, .int tr, .int lc, .int lr, .int ax])), (sa, .inl (dA 4, 2, .inr (.inr (.inr (.inr h))))), (jn, .inr (2, [.ref al])), (al, .inr (9, [.int mc, .ref ae, .int (nI (n))]))] H))) (zQi (fun rz H => ∃ bs : Nat, ∃ bw : Nat, rz = nI (n) ∧ va_P D vwCl [(sy, .inr (3, [.int (nI (n)), .int (nI (n)), .ref bs, .int (nI (0))])), (bs, .inr (10, [.ref bw, .int (nI (uOf 0)), .int (nI (1))])), (bw, .inl (dA 1, 2, .inr (.inl (lwd 0))))] H ∧ va_D A [(sy, .inr (3, [.int (nI (n)), .int (nI (n)), .ref bs, .int (nI (0))])), (bs, .inr (10, [.ref bw, .int (nI (uOf 0)), .int (nI (1))])), (bw, .inl (dA 1, 2, .inr (.inl (lwd 0))))]) A) (2) (5) A := by
  refine Met.ofW (cc := cX1_rebuilds) (maxL := 2) (ret := (some .int)) (by decide) rfl ?_
  intro p e s m args below meth c s₁ B hml hv
  obtain ⟨rfl, hsz, hC, hP⟩ := hv
  have hx := B.exec
  have hb := B.bytes
  have hr := B.returns
  have hts := atoms_spec (ws := ws_ yX1_rebuilds cX1_rebuilds 2 (some .int)) B.pre
  have hts : ∀ w ∈ lw_all, w.before _ s = true := fun w h => hts w (List.mem_cons_of_mem _ h)
  have hown : s.vm.findClass RX1 = some m.cls := findClass_of_methodNamed B.named
  have hlocks := B.notSynchronized
  subst hsz
  have hK := hC.K
  have hS : va_S A s.heap s.heap [] := va_S.rf
  obtain ⟨hP, hZ⟩ := hP
  have hP : va_P D vwCl [(sy, .inr (3, [.int x0, .int x1, va_rf x2, .int x3]))] s.heap := hP
  have hl := lv_entry ([.ref st, .int (nI (j))]) (n := 2) (Nat.le_of_ble_eq_true rfl)
  rw [lg_entry_eq]
  generalize (lg_sl ([.ref st, .int (nI (j))]) ++ List.replicate (2 - (lg_sl ([.ref st, .int (nI (j))])).length) Slot.unset).toArray = ls at hl ⊢
  have hl : lv_has ls 2 [(0, .ref st), (1, .int (nI (j)))] := hl
  refine lv_aload_n hx hb dX1_rebuilds_0 rfl (lv_at hl 0 rfl) ?_
  refine va_get (D := D) (ci := 1) (v := .ref sa) (C := RX1) (T := TX1) (N := 10) hx hb hts in_X1 hown hK (hZ.at hS) 0 rfl rfl 2 (by decide) (hts _ q196) (fun _ h9 => h9) rfl dX1_rebuilds_1 ?_
  refine lv_iload_n hx hb dX1_rebuilds_4 rfl (lv_at hl 1 rfl) ?_
  refine va_aldq hx hb hK (hZ.at hS) 1 4 rfl rfl (vp_in_nI (by omega) (by omega)) dX1_rebuilds_5 ?_
  refine lv_topv (y := .ref sy) (by rw [nI_clamp (by omega)]; rw [hg]; rfl) ?_
  refine lv_aload_n hx hb dX1_rebuilds_6 rfl (lv_at hl 0 rfl) ?_
  refine va_get (D := D) (ci := 1) (v := .ref jn) (C := RX1) (T := TX1) (N := 10) hx hb hts in_X1 hown hK (hZ.at hS) 0 rfl rfl 0 (by decide) (hts _ q192) (fun _ h9 => h9) rfl dX1_rebuilds_7 ?_
  refine z_cVi (As := []) (rest := [.ref sy]) ⟨hx, hb, hml, hown, hts⟩ (mX2_size l D dA ad s.heap.size jn al mc ae n) (cwV 0 hts (lw_V q636 q637 q638 q56 q639) rfl rfl rfl (by decide +kernel) ⟨Nat.le_of_ble_eq_true rfl, Nat.le_of_ble_eq_true rfl⟩) hC hS (fun _ h => hA _ (Nat.le_trans hS.1 h)) ((hZ.at hS).sub (ws' := [(jn, .inr (2, [.ref al])), (al, .inr (9, [.int mc, .ref ae, .int (nI (n))]))]) [2, 3] rfl) (va_recv hK (hZ.at hS) (ci := 2) (q0 := 2) rfl rfl) rfl rfl hl.1 (Nat.le_of_ble_eq_true rfl) dX1_rebuilds_10 ⟨Nat.le_of_ble_eq_true rfl, Nat.le_of_ble_eq_true rfl⟩ (fun r_1 H locs hQ hF hS => ?_)
  have hP := va_P.ro hF hP
  obtain rfl : nI (n) = r_1 := hQ.symm
  refine lv_iconst (v := nI (0)) hx hb dX1_rebuilds_13 (by decide) ?_
  refine z_cVv (As := [.int (nI (n)), .int (nI (0))]) (rest := []) ⟨hx, hb, hml, hown, hts⟩ (mX3_isAt l D dA ad A H.size sy x0 x1 x2 x3 (nI (n)) (nI (0)) (hA_up hA hS) (Or.inl rfl) (hD.sub [0] (by decide) rfl)) (cwV 2 hts (lw_V q762 q763 q764 q60 q765) rfl rfl rfl (by decide +kernel) ⟨Nat.le_of_ble_eq_true rfl, Nat.le_of_ble_eq_true rfl⟩) hC hS (fun _ h => h) (hP.sub (ws' := [(sy, .inr (3, [.int x0, .int x1, va_rf x2, .int x3]))]) [0] rfl) (va_recv hK hP (ci := 3) (q0 := 0) rfl rfl) rfl rfl hl.1 (Nat.le_of_ble_eq_true rfl) dX1_rebuilds_14 ⟨Nat.le_of_ble_eq_true rfl, Nat.le_of_ble_eq_true rfl⟩ (fun H locs hQ hF hS => ?_)
  obtain ⟨bs_3, bw_4, hQ, hP1, hD1⟩ := hQ
  have hP := hP1
  have hD := hD1
  have hP : va_P D vwCl [(sy, .inr (3, [.int (nI (n)), .int (nI (n)), .ref bs_3, .int (nI (0))])), (bs_3, .inr (10, [.ref bw_4, .int (nI (uOf 0)), .int (nI (1))])), (bw_4, .inl (dA 1, 2, .inr (.inl (lwd 0))))] H := hP
  have hD : va_D A [(sy, .inr (3, [.int (nI (n)), .int (nI (n)), .ref bs_3, .int (nI (0))])), (bs_3, .inr (10, [.ref bw_4, .int (nI (uOf 0)), .int (nI (1))])), (bw_4, .inl (dA 1, 2, .inr (.inl (lwd 0))))] := hD
  refine lv_aload_n hx hb dX1_rebuilds_17 rfl (lv_at hl 0 rfl) ?_
  refine va_get (D := D) (ci := 1) (v := .ref jn) (C := RX1) (T := TX1) (N := 10) hx hb hts in_X1 hown hK (hZ.at hS) 0 rfl rfl 0 (by decide) (hts _ q192) (fun _ h9 => h9) rfl dX1_rebuilds_18 ?_
  refine z_cVi (As := []) (rest := []) ⟨hx, hb, hml, hown, hts⟩ (mX2_size l D dA ad H.size jn al mc ae n) (cwV 0 hts (lw_V q636 q637 q638 q56 q639) rfl rfl rfl (by decide +kernel) ⟨Nat.le_of_ble_eq_true rfl, Nat.le_of_ble_eq_true rfl⟩) hC hS (fun _ h => hA _ (Nat.le_trans hS.1 h)) ((hZ.at hS).sub (ws' := [(jn, .inr (2, [.ref al])), (al, .inr (9, [.int mc, .ref ae, .int (nI (n))]))]) [2, 3] rfl) (va_recv hK (hZ.at hS) (ci := 2) (q0 := 2) rfl rfl) rfl rfl hl.1 (Nat.le_of_ble_eq_true rfl) dX1_rebuilds_21 ⟨Nat.le_of_ble_eq_true rfl, Nat.le_of_ble_eq_true rfl⟩ (fun r_5 H locs hQ hF hS => ?_)
  have hP := va_P.ro hF hP
  obtain rfl : nI (n) = r_5 := hQ.symm
  exact z_iret (v := nI (n)) hx hb hr hS (⟨bs_3, bw_4, rfl, hP, hD⟩) (by decide) (by decide) dX1_rebuilds_24
