set_option maxHeartbeats 4000000 in
set_option maxRecDepth 100000 in
theorem mX3_init_2 (l : Launch) (D : va_G) (dA : Nat → ClassId) (ad : Nat → Nat) (A : Nat → Prop) (sz : Nat) (sy : Nat) (x0 : Int32) (x1 : Int32) (x2 : Option Nat) (x3 : Int32) (so : Nat) (rc : Nat) (ap : Nat) (ac : Nat) (ob : Nat) (ow : Nat) (st2 : Int32) (Wb : Nat) (hA : ∀ q, sz ≤ q → A q) (hW : Wb < 2 ^ 101) (h3 : ac ≤ 1) (hD : va_D A [(sy, .inr (3, [.int x0, .int x1, va_rf x2, .int x3]))]) : Met l yX3_init_2 (ws_ yX3_init_2 cX3_init_2 2 none) ({ frames := 4, cells := 2, slots := 5, locals := 130 }) (va_Pc [.ref sy, .ref so] (zP D dA ad A sz (fun H => va_P D vwCl [(sy, .inr (3, [.int x0, .int x1, va_rf x2, .int x3]))] H ∧ zFz D A [(so, .inr (3, [.int (nI (rc)), .int (nI (ap)), .ref ob, .int (nI (ac))])), (ob, .inr (10, [.ref ow, .int (nI (uOf Wb)), .int st2])), (ow, .inl (dA 1, 2, .inr (.inl (lwd Wb))))] H))) (zQv (fun H => ∃ bs : Nat, ∃ bw : Nat, True ∧ va_P D vwCl [(sy, .inr (3, [.int (nI (rc)), .int (nI (ap)), .ref bs, .int (nI (ac))])), (bs, .inr (10, [.ref bw, .int (nI (uOf Wb)), .int (nI (1))])), (bw, .inl (dA 1, 2, .inr (.inl (lwd Wb))))] H ∧ va_D A [(sy, .inr (3, [.int (nI (rc)), .int (nI (ap)), .ref bs, .int (nI (ac))])), (bs, .inr (10, [.ref bw, .int (nI (uOf Wb)), .int (nI (1))])), (bw, .inl (dA 1, 2, .inr (.inl (lwd Wb))))]) A) (2) (5) A := by
  refine Met.ofW (cc := cX3_init_2) (maxL := 2) (ret := none) (by decide) rfl ?_
  intro p e s m args below meth c s₁ B hml hv
  obtain ⟨rfl, hsz, hC, hP⟩ := hv
  have hx := B.exec
  have hb := B.bytes
  have hr := B.returns
  have hts := atoms_spec (ws := ws_ yX3_init_2 cX3_init_2 2 none) B.pre
  have hts : ∀ w ∈ lw_all, w.before _ s = true := fun w h => hts w (List.mem_cons_of_mem _ h)
  have hown : s.vm.findClass RX3 = some m.cls := findClass_of_methodNamed B.named
  have hlocks := B.notSynchronized
  have hin : meth.name = "<init>" := (name_of_methodNamed B.named B.method).1
  subst hsz
  have hK := hC.K
  have hS : va_S A s.heap s.heap [] := va_S.rf
  obtain ⟨hP, hZ⟩ := hP
  have hP : va_P D vwCl [(sy, .inr (3, [.int x0, .int x1, va_rf x2, .int x3]))] s.heap := hP
  have hl := lv_entry ([.ref sy, .ref so]) (n := 2) (Nat.le_of_ble_eq_true rfl)
  rw [lg_entry_eq]
  generalize (lg_sl ([.ref sy, .ref so]) ++ List.replicate (2 - (lg_sl ([.ref sy, .ref so])).length) Slot.unset).toArray = ls at hl ⊢
  have hl : lv_has ls 2 [(0, .ref sy), (1, .ref so)] := hl
  refine lv_aload_n hx hb dX3_init_2_0 rfl (lv_at hl 0 rfl) ?_
  refine W.objInit hx hb hown (hts _ q146) (hts _ q92) (hts _ q93) rfl (by rw [hml]; exact hl.1) rfl dX3_init_2_1 (Nat.le_of_ble_eq_true rfl) (Nat.le_of_ble_eq_true rfl) ?_
  refine W.eq (g2 := F0 m 4 ls []) rfl ?_
  refine lv_aload_n hx hb dX3_init_2_4 rfl (lv_at hl 0 rfl) ?_
  refine va_new (D := D) (ci := 10) (fs := [.null, .int 0, .int 0]) (C := RJ3) (T := TJ3) (N := 3) hx hb hts in_J3 tyJ3 tyJ3_ok hown (hts _ q147) (hts _ q148) (hts _ q61) hK hP hD hS hA rfl (fun j hj => by match j, hj with | 0, _ => rfl | 1, _ => rfl | 2, _ => rfl | j + 3, hj => exact absurd hj (by omega)) (by first | exact Nat.le_of_ble_eq_true rfl | (show _ ≤ _; simp only [headSpec]; omega)) (by first | exact Nat.le_of_ble_eq_true rfl | (show _ ≤ _; simp only [headSpec]; omega)) dX3_init_2_5 (fun qn H hP hD hS => ?_)
  have hP : va_P D vwCl [(sy, .inr (3, [.int x0, .int x1, va_rf x2, .int x3])), (qn, .inr (10, [.null, .int 0, .int 0]))] H := hP
  have hD : va_D A [(sy, .inr (3, [.int x0, .int x1, va_rf x2, .int x3])), (qn, .inr (10, [.null, .int 0, .int 0]))] := hD
  refine lv_dup hx hb dX3_init_2_8 rfl ?_
  refine lv_bipush (v := nI (101)) hx hb dX3_init_2_9 (by decide) ?_
  have hDc := (hD.sub (ws' := [(qn, .inr (10, [.null, .int 0, .int 0]))]) [1] (by decide) rfl).self (sz := H.size)
  have hFc := va_free (wc := [(qn, .inr (10, [.null, .int 0, .int 0]))]) hD hS hA [1] rfl
  refine z_cIv (As := [.int (nI (101))]) (rest := [.ref qn, .ref sy]) ⟨hx, hb, hml, hown, hts⟩ (mJ3_init l D dA ad (va_A [(qn, .inr (10, [.null, .int 0, .int 0]))] H.size) H.size qn none 0 0 (fun _ h => Or.inr h) hDc) (cwI 1 hts (lw_meth q151) rfl rfl rfl (hts _ q61) (hts _ q149) (hts _ q150) rfl (by decide +kernel) ⟨Nat.le_of_ble_eq_true rfl, Nat.le_of_ble_eq_true rfl⟩) hC hS (hFc) (hP.sub (ws' := [(qn, .inr (10, [.null, .int 0, .int 0]))]) [1] rfl) rfl rfl hl.1 (Nat.le_of_ble_eq_true rfl) dX3_init_2_11 ⟨Nat.le_of_ble_eq_true rfl, Nat.le_of_ble_eq_true rfl⟩ (fun H locs hQ hF hS => ?_)
  obtain ⟨bw_2, hQ, hP1, hD1⟩ := hQ
  obtain ⟨hP, hD⟩ := va_join (wr := [(sy, .inr (3, [.int x0, .int x1, va_rf x2, .int x3]))]) (w1 := [(qn, .inr (10, [.ref bw_2, .int (nI (uOf 0)), .int (nI (1))])), (bw_2, .inl (dA 1, 2, .inr (.inl (lwd 0))))]) hP hD [1] [0] rfl rfl (by decide) (by decide) hF.2 hFc hP1 hD1
  have hP : va_P D vwCl [(sy, .inr (3, [.int x0, .int x1, va_rf x2, .int x3])), (qn, .inr (10, [.ref bw_2, .int (nI (uOf 0)), .int (nI (1))])), (bw_2, .inl (dA 1, 2, .inr (.inl (lwd 0))))] H := hP
  have hD : va_D A [(sy, .inr (3, [.int x0, .int x1, va_rf x2, .int x3])), (qn, .inr (10, [.ref bw_2, .int (nI (uOf 0)), .int (nI (1))])), (bw_2, .inl (dA 1, 2, .inr (.inl (lwd 0))))] := hD
  refine va_put (D := D) (ci := 3) (v := .ref qn) (ty := .object "java/util/BitSet") (C := RX3) (T := TX3) (N := 4) hx hb hts in_X3 tyX3 tyX3_ok nmX3 hown hK hP hD hS 0 rfl rfl 2 (by decide) (hts _ q177) (fun _ h9 => h9) rfl (by decide +kernel) rfl rfl (Nat.le_of_ble_eq_true rfl) dX3_init_2_14 (fun H locs hP hD hS => ?_)
  have hP : va_P D vwCl [(sy, .inr (3, [.int x0, .int x1, .ref qn, .int x3])), (qn, .inr (10, [.ref bw_2, .int (nI (uOf 0)), .int (nI (1))])), (bw_2, .inl (dA 1, 2, .inr (.inl (lwd 0))))] H := hP
  have hD : va_D A [(sy, .inr (3, [.int x0, .int x1, .ref qn, .int x3])), (qn, .inr (10, [.ref bw_2, .int (nI (uOf 0)), .int (nI (1))])), (bw_2, .inl (dA 1, 2, .inr (.inl (lwd 0))))] := hD
  refine lv_aload_n hx hb dX3_init_2_17 rfl (lv_at hl 0 rfl) ?_
  refine lv_aload_n hx hb dX3_init_2_18 rfl (lv_at hl 1 rfl) ?_
  refine va_get (D := D) (ci := 3) (v := .int (nI (rc))) (C := RX3) (T := TX3) (N := 4) hx hb hts in_X3 hown hK (hZ.at hS) 0 rfl rfl 0 (by decide) (hts _ q171) (fun _ h9 => h9) rfl dX3_init_2_19 ?_
  refine va_put (D := D) (ci := 3) (v := .int (nI (rc))) (ty := .int) (C := RX3) (T := TX3) (N := 4) hx hb hts in_X3 tyX3 tyX3_ok nmX3 hown hK hP hD hS 0 rfl rfl 0 (by decide) (hts _ q171) (fun _ h9 => h9) rfl (by decide +kernel) rfl rfl (Nat.le_of_ble_eq_true rfl) dX3_init_2_22 (fun H locs hP hD hS => ?_)
  have hP : va_P D vwCl [(sy, .inr (3, [.int (nI (rc)), .int x1, .ref qn, .int x3])), (qn, .inr (10, [.ref bw_2, .int (nI (uOf 0)), .int (nI (1))])), (bw_2, .inl (dA 1, 2, .inr (.inl (lwd 0))))] H := hP
  have hD : va_D A [(sy, .inr (3, [.int (nI (rc)), .int x1, .ref qn, .int x3])), (qn, .inr (10, [.ref bw_2, .int (nI (uOf 0)), .int (nI (1))])), (bw_2, .inl (dA 1, 2, .inr (.inl (lwd 0))))] := hD
  refine lv_aload_n hx hb dX3_init_2_25 rfl (lv_at hl 0 rfl) ?_
  refine lv_aload_n hx hb dX3_init_2_26 rfl (lv_at hl 1 rfl) ?_
  refine va_get (D := D) (ci := 3) (v := .int (nI (ap))) (C := RX3) (T := TX3) (N := 4) hx hb hts in_X3 hown hK (hZ.at hS) 0 rfl rfl 1 (by decide) (hts _ q174) (fun _ h9 => h9) rfl dX3_init_2_27 ?_
  refine va_put (D := D) (ci := 3) (v := .int (nI (ap))) (ty := .int) (C := RX3) (T := TX3) (N := 4) hx hb hts in_X3 tyX3 tyX3_ok nmX3 hown hK hP hD hS 0 rfl rfl 1 (by decide) (hts _ q174) (fun _ h9 => h9) rfl (by decide +kernel) rfl rfl (Nat.le_of_ble_eq_true rfl) dX3_init_2_30 (fun H locs hP hD hS => ?_)
  have hP : va_P D vwCl [(sy, .inr (3, [.int (nI (rc)), .int (nI (ap)), .ref qn, .int x3])), (qn, .inr (10, [.ref bw_2, .int (nI (uOf 0)), .int (nI (1))])), (bw_2, .inl (dA 1, 2, .inr (.inl (lwd 0))))] H := hP
  have hD : va_D A [(sy, .inr (3, [.int (nI (rc)), .int (nI (ap)), .ref qn, .int x3])), (qn, .inr (10, [.ref bw_2, .int (nI (uOf 0)), .int (nI (1))])), (bw_2, .inl (dA 1, 2, .inr (.inl (lwd 0))))] := hD
  refine lv_aload_n hx hb dX3_init_2_33 rfl (lv_at hl 0 rfl) ?_
  refine va_get (D := D) (ci := 3) (v := .ref qn) (C := RX3) (T := TX3) (N := 4) hx hb hts in_X3 hown hK hP 0 rfl rfl 2 (by decide) (hts _ q177) (fun _ h9 => h9) rfl dX3_init_2_34 ?_
  refine lv_aload_n hx hb dX3_init_2_37 rfl (lv_at hl 1 rfl) ?_
  refine va_get (D := D) (ci := 3) (v := .ref ob) (C := RX3) (T := TX3) (N := 4) hx hb hts in_X3 hown hK (hZ.at hS) 0 rfl rfl 2 (by decide) (hts _ q177) (fun _ h9 => h9) rfl dX3_init_2_38 ?_
  have hDc := (hD.sub (ws' := [(qn, .inr (10, [.ref bw_2, .int (nI (uOf 0)), .int (nI (1))])), (bw_2, .inl (dA 1, 2, .inr (.inl (lwd 0))))]) [1, 2] (by decide) rfl).self (sz := H.size)
  have hFc := va_free (wc := [(qn, .inr (10, [.ref bw_2, .int (nI (uOf 0)), .int (nI (1))])), (bw_2, .inl (dA 1, 2, .inr (.inl (lwd 0))))]) hD hS hA [1, 2] rfl
  refine z_cVv (As := [.ref ob]) (rest := []) ⟨hx, hb, hml, hown, hts⟩ (mJ3_or l D dA ad (va_A [(qn, .inr (10, [.ref bw_2, .int (nI (uOf 0)), .int (nI (1))])), (bw_2, .inl (dA 1, 2, .inr (.inl (lwd 0))))] H.size) H.size qn bw_2 (nI (1)) ob ow st2 Wb (fun _ h => Or.inr h) (by omega) hDc) (cwV 1 hts (lw_V q421 q422 q423 q61 q424) rfl rfl rfl (by decide +kernel) ⟨Nat.le_of_ble_eq_true rfl, Nat.le_of_ble_eq_true rfl⟩) hC hS (hFc) ⟨(hP.sub (ws' := [(qn, .inr (10, [.ref bw_2, .int (nI (uOf 0)), .int (nI (1))])), (bw_2, .inl (dA 1, 2, .inr (.inl (lwd 0))))]) [1, 2] rfl), (zFz_mk ((hZ.at hS).sub (ws' := [(ob, .inr (10, [.ref ow, .int (nI (uOf Wb)), .int st2])), (ow, .inl (dA 1, 2, .inr (.inl (lwd Wb))))]) [1, 2] rfl) (fun k q hk => by match k, hk with | 0, hk => cases hk; exact (fun h9 => hZ.out (q0 := 1) rfl (hFc _ h9)) | 1, hk => cases hk; exact (fun h9 => hZ.out (q0 := 2) rfl (hFc _ h9)) | k + 2, hk => simp at hk))⟩ (va_recv hK hP (ci := 10) (q0 := 1) rfl rfl) rfl rfl hl.1 (Nat.le_of_ble_eq_true rfl) dX3_init_2_41 ⟨Nat.le_of_ble_eq_true rfl, Nat.le_of_ble_eq_true rfl⟩ (fun H locs hQ hF hS => ?_)
  obtain ⟨hQ, hP1⟩ := hQ
  obtain ⟨hP, hD⟩ := va_join (wr := [(sy, .inr (3, [.int (nI (rc)), .int (nI (ap)), .ref qn, .int x3]))]) (w1 := [(qn, .inr (10, [.ref bw_2, .int (nI (uOf Wb)), .int (nI (1))])), (bw_2, .inl (dA 1, 2, .inr (.inl (lwd Wb))))]) hP hD [1, 2] [0] rfl rfl (by decide) (by decide) hF.2 hFc hP1 (hDc.same rfl)
  have hP := hP.sub (ws' := [(sy, .inr (3, [.int (nI (rc)), .int (nI (ap)), .ref qn, .int x3])), (qn, .inr (10, [.ref bw_2, .int (nI (uOf Wb)), .int (nI (1))])), (bw_2, .inl (dA 1, 2, .inr (.inl (lwd Wb))))]) [0, 1, 2] rfl
  have hD := hD.sub (ws' := [(sy, .inr (3, [.int (nI (rc)), .int (nI (ap)), .ref qn, .int x3])), (qn, .inr (10, [.ref bw_2, .int (nI (uOf Wb)), .int (nI (1))])), (bw_2, .inl (dA 1, 2, .inr (.inl (lwd Wb))))]) [0, 1, 2] (by decide) rfl
  refine lv_aload_n hx hb dX3_init_2_44 rfl (lv_at hl 0 rfl) ?_
  refine lv_aload_n hx hb dX3_init_2_45 rfl (lv_at hl 1 rfl) ?_
  refine va_get (D := D) (ci := 3) (v := .int (nI (ac))) (C := RX3) (T := TX3) (N := 4) hx hb hts in_X3 hown hK (hZ.at hS) 0 rfl rfl 3 (by decide) (hts _ q180) (fun _ h9 => h9) rfl dX3_init_2_46 ?_
  refine va_put (D := D) (ci := 3) (v := .int (nI (ac))) (ty := .boolean) (C := RX3) (T := TX3) (N := 4) hx hb hts in_X3 tyX3 tyX3_ok nmX3 hown hK hP hD hS 0 rfl rfl 3 (by decide) (hts _ q180) (fun _ h9 => h9) rfl (by decide +kernel) (by rcases (show ac = 0 ∨ ac = 1 by omega) with rfl | rfl <;> rfl) (by rcases (show ac = 0 ∨ ac = 1 by omega) with rfl | rfl <;> rfl) (Nat.le_of_ble_eq_true rfl) dX3_init_2_49 (fun H locs hP hD hS => ?_)
  have hP : va_P D vwCl [(sy, .inr (3, [.int (nI (rc)), .int (nI (ap)), .ref qn, .int (nI (ac))])), (qn, .inr (10, [.ref bw_2, .int (nI (uOf Wb)), .int (nI (1))])), (bw_2, .inl (dA 1, 2, .inr (.inl (lwd Wb))))] H := hP
  have hD : va_D A [(sy, .inr (3, [.int (nI (rc)), .int (nI (ap)), .ref qn, .int (nI (ac))])), (qn, .inr (10, [.ref bw_2, .int (nI (uOf Wb)), .int (nI (1))])), (bw_2, .inl (dA 1, 2, .inr (.inl (lwd Wb))))] := hD
  exact z_vret hx hb hr hS (⟨qn, bw_2, trivial, hP.sub [0, 1, 2] rfl, hD.sub [0, 1, 2] (by decide) rfl⟩) (by decide) (by decide) dX3_init_2_52
