set_option maxHeartbeats 4000000 in
set_option maxRecDepth 100000 in
theorem mX2_init_2E (l : Launch) (D : va_G) (dA : Nat → ClassId) (ad : Nat → Nat) (A : Nat → Prop) (sz : Nat) (jn : Nat) (x0 : Option Nat) (sj : Nat) (sl : Nat) (smc : Int32) (sae : Nat) (hA : ∀ q, sz ≤ q → A q) (hD : va_D A [(jn, .inr (2, [va_rf x0]))]) : Met l yX2_init_2 (ws_ yX2_init_2 cX2_init_2 4 none) ({ frames := 9, cells := 2, slots := 7, locals := 300 }) (va_Pc [.ref jn, .ref sj] (zP D dA ad A sz (fun H => va_P D vwCl [(jn, .inr (2, [va_rf x0]))] H ∧ zFz D A [(sj, .inr (2, [.ref sl])), (sl, .inr (9, [.int smc, .ref sae, .int (nI (0))]))] H))) (zQv (fun H => ∃ al : Nat, True ∧ va_P D vwCl [(jn, .inr (2, [.ref al])), (al, .inr (9, [.int (nI (0)), .ref (ad 0), .int (nI (0))]))] H ∧ va_D A [(jn, .inr (2, [.ref al])), (al, .inr (9, [.int (nI (0)), .ref (ad 0), .int (nI (0))]))]) A) (2) (7) A := by
  refine Met.ofW (cc := cX2_init_2) (maxL := 4) (ret := none) (by decide) rfl ?_
  intro p e s m args below meth c s₁ B hml hv
  obtain ⟨rfl, hsz, hC, hP⟩ := hv
  have hx := B.exec
  have hb := B.bytes
  have hr := B.returns
  have hts := atoms_spec (ws := ws_ yX2_init_2 cX2_init_2 4 none) B.pre
  have hts : ∀ w ∈ lw_all, w.before _ s = true := fun w h => hts w (List.mem_cons_of_mem _ h)
  have hown : s.vm.findClass RX2 = some m.cls := findClass_of_methodNamed B.named
  have hlocks := B.notSynchronized
  have hin : meth.name = "<init>" := (name_of_methodNamed B.named B.method).1
  subst hsz
  have hK := hC.K
  have hS : va_S A s.heap s.heap [] := va_S.rf
  obtain ⟨hP, hZ⟩ := hP
  have hP : va_P D vwCl [(jn, .inr (2, [va_rf x0]))] s.heap := hP
  have hl := lv_entry ([.ref jn, .ref sj]) (n := 4) (Nat.le_of_ble_eq_true rfl)
  rw [lg_entry_eq]
  generalize (lg_sl ([.ref jn, .ref sj]) ++ List.replicate (4 - (lg_sl ([.ref jn, .ref sj])).length) Slot.unset).toArray = ls at hl ⊢
  have hl : lv_has ls 4 [(0, .ref jn), (1, .ref sj)] := hl
  refine lv_aload_n hx hb dX2_init_2_0 rfl (lv_at hl 0 rfl) ?_
  refine W.objInit hx hb hown (hts _ q107) (hts _ q92) (hts _ q93) rfl (by rw [hml]; exact hl.1) rfl dX2_init_2_1 (Nat.le_of_ble_eq_true rfl) (Nat.le_of_ble_eq_true rfl) ?_
  refine W.eq (g2 := F0 m 4 ls []) rfl ?_
  refine lv_aload_n hx hb dX2_init_2_4 rfl (lv_at hl 0 rfl) ?_
  refine va_new (D := D) (ci := 9) (fs := [.int 0, .null, .int 0]) (C := RJ2) (T := TJ2) (N := 3) hx hb hts in_J2 tyJ2 tyJ2_ok hown (hts _ q108) (hts _ q109) (hts _ q59) hK hP hD hS hA rfl (fun j hj => by match j, hj with | 0, _ => rfl | 1, _ => rfl | 2, _ => rfl | j + 3, hj => exact absurd hj (by omega)) (by first | exact Nat.le_of_ble_eq_true rfl | (show _ ≤ _; simp only [headSpec]; omega)) (by first | exact Nat.le_of_ble_eq_true rfl | (show _ ≤ _; simp only [headSpec]; omega)) dX2_init_2_5 (fun qn H hP hD hS => ?_)
  have hP : va_P D vwCl [(jn, .inr (2, [va_rf x0])), (qn, .inr (9, [.int 0, .null, .int 0]))] H := hP
  have hD : va_D A [(jn, .inr (2, [va_rf x0])), (qn, .inr (9, [.int 0, .null, .int 0]))] := hD
  refine lv_dup hx hb dX2_init_2_8 rfl ?_
  have hDc := (hD.sub (ws' := [(qn, .inr (9, [.int 0, .null, .int 0]))]) [1] (by decide) rfl).self (sz := H.size)
  have hFc := va_free (wc := [(qn, .inr (9, [.int 0, .null, .int 0]))]) hD hS hA [1] rfl
  refine z_cIv (As := []) (rest := [.ref qn, .ref jn]) ⟨hx, hb, hml, hown, hts⟩ (mJ2_init l D dA ad (va_A [(qn, .inr (9, [.int 0, .null, .int 0]))] H.size) H.size qn 0 none 0 (fun _ h => Or.inr h) hDc) (cwI 0 hts (lw_meth q112) rfl rfl rfl (hts _ q59) (hts _ q110) (hts _ q111) rfl (by decide +kernel) ⟨Nat.le_of_ble_eq_true rfl, Nat.le_of_ble_eq_true rfl⟩) hC hS (hFc) (hP.sub (ws' := [(qn, .inr (9, [.int 0, .null, .int 0]))]) [1] rfl) rfl rfl hl.1 (Nat.le_of_ble_eq_true rfl) dX2_init_2_9 ⟨Nat.le_of_ble_eq_true rfl, Nat.le_of_ble_eq_true rfl⟩ (fun H locs hQ hF hS => ?_)
  obtain ⟨hQ, hP1⟩ := hQ
  obtain ⟨hP, hD⟩ := va_join (wr := [(jn, .inr (2, [va_rf x0]))]) (w1 := [(qn, .inr (9, [.int (nI (0)), .ref (ad 0), .int 0]))]) hP hD [1] [0] rfl rfl (by decide) (by decide) hF.2 hFc hP1 (hDc.same rfl)
  have hP := hP.sub (ws' := [(jn, .inr (2, [va_rf x0])), (qn, .inr (9, [.int (nI (0)), .ref (ad 0), .int 0]))]) [0, 1] rfl
  have hD := hD.sub (ws' := [(jn, .inr (2, [va_rf x0])), (qn, .inr (9, [.int (nI (0)), .ref (ad 0), .int 0]))]) [0, 1] (by decide) rfl
  refine va_putF (D := D) (ci := 2) (v := .ref qn) (ty := .object "java/util/ArrayList") (C := RX2) (T := TX2) (N := 1) hx hb hts in_X2 tyX2 tyX2_ok nmX2 hown hK hP hD hS 0 rfl rfl 0 (by decide) (hts _ q138) (fun _ h9 => h9) rfl hin (by rfl) (by decide +kernel) rfl rfl (Nat.le_of_ble_eq_true rfl) dX2_init_2_12 (fun H locs hP hD hS => ?_)
  have hP : va_P D vwCl [(jn, .inr (2, [.ref qn])), (qn, .inr (9, [.int (nI (0)), .ref (ad 0), .int 0]))] H := hP
  have hD : va_D A [(jn, .inr (2, [.ref qn])), (qn, .inr (9, [.int (nI (0)), .ref (ad 0), .int 0]))] := hD
  refine lv_aload_n hx hb dX2_init_2_15 rfl (lv_at hl 1 rfl) ?_
  refine va_get (D := D) (ci := 2) (v := .ref sl) (C := RX2) (T := TX2) (N := 1) hx hb hts in_X2 hown hK (hZ.at hS) 0 rfl rfl 0 (by decide) (hts _ q138) (fun _ h9 => h9) rfl dX2_init_2_16 ?_
  have hSo := hS
  refine z_cVr (As := []) (rest := []) ⟨hx, hb, hml, hown, hts⟩ (mJ2_iterator l D dA ad H.size sl smc sae 0) (cwV 0 hts (lw_V q310 q311 q312 q59 q313) rfl rfl rfl (by decide +kernel) ⟨Nat.le_of_ble_eq_true rfl, Nat.le_of_ble_eq_true rfl⟩) hC hS (fun _ h => hA _ (Nat.le_trans hS.1 h)) ((hZ.at hS).sub (ws' := [(sl, .inr (9, [.int smc, .ref sae, .int (nI (0))]))]) [1] rfl) (va_recv hK (hZ.at hS) (ci := 9) (q0 := 1) rfl rfl) rfl rfl hl.1 (Nat.le_of_ble_eq_true rfl) dX2_init_2_19 ⟨Nat.le_of_ble_eq_true rfl, Nat.le_of_ble_eq_true rfl⟩ (fun r_2 H locs hQ hF hS => ?_)
  obtain ⟨hQ, hP1, hD1⟩ := hQ
  obtain ⟨hP, hD⟩ := z_addnew (hA_up hA hSo) hP hD hF hP1 hD1
  have hP : va_P D vwCl [(jn, .inr (2, [.ref qn])), (qn, .inr (9, [.int (nI (0)), .ref (ad 0), .int 0])), (r_2, .inr (13, [.int (nI (0)), .int (-1), .int smc, .ref sl]))] H := hP
  have hD : va_D A [(jn, .inr (2, [.ref qn])), (qn, .inr (9, [.int (nI (0)), .ref (ad 0), .int 0])), (r_2, .inr (13, [.int (nI (0)), .int (-1), .int smc, .ref sl]))] := hD
  refine lv_astore_n (lv' := [(2, .ref r_2), (0, .ref jn), (1, .ref sj)]) hx hb dX2_init_2_22 rfl hl (by decide) rfl (fun ls hl => ?_)
  refine lv_aload_n hx hb dX2_init_2_23 rfl (lv_at hl 0 rfl) ?_
  refine z_cFi (hC.K.1 13 _ rfl).2 (As := []) (rest := []) ⟨hx, hb, hml, hown, hts⟩ (mJ9_hasNext l D dA ad H.size r_2 0 (-1) sl smc sae 0 (by omega) (by omega)) (va_cwF 0 hts (lw_F q334 q338 q340 q68 q342) rfl rfl rfl (Cx.nI hC (List.mem_of_getElem? (i := 4) rfl)) (by decide +kernel) ⟨Nat.le_of_ble_eq_true rfl, Nat.le_of_ble_eq_true rfl⟩) hC hS (fun _ h => hA _ (Nat.le_trans hS.1 h)) ((hP.app (hZ.at hS)).sub (ws' := [(r_2, .inr (13, [.int (nI (0)), .int (-1), .int smc, .ref sl])), (sl, .inr (9, [.int smc, .ref sae, .int (nI (0))]))]) [2, 4] rfl) (va_recv hK hP (ci := 13) (q0 := 2) rfl rfl) rfl rfl hl.1 (Nat.le_of_ble_eq_true rfl) dX2_init_2_24 ⟨Nat.le_of_ble_eq_true rfl, Nat.le_of_ble_eq_true rfl⟩ (fun r_3 H locs hQ hF hS => ?_)
  have hP := va_P.ro hF hP
  obtain rfl : bI (0 ≠ 0) = r_3 := hQ.symm
  refine lv_if_eq (tgt := 54) hx hb dX2_init_2_29 (by decide) (fun c_4 => ?_) (fun c_4 => ?_)
  · have c_4 := bI_0.1 c_4
    exact z_vret hx hb hr hS (⟨qn, trivial, hP.sub [0, 1] rfl, hD.sub [0, 1] (by decide) rfl⟩) (by decide) (by decide) dX2_init_2_54
  · have c_4 := bI_1.1 c_4
    exact absurd rfl c_4

set_option maxHeartbeats 4000000 in
set_option maxRecDepth 100000 in
theorem mX3_init (l : Launch) (D : va_G) (dA : Nat → ClassId) (ad : Nat → Nat) (A : Nat → Prop) (sz : Nat) (sy : Nat) (x0 : Int32) (x1 : Int32) (x2 : Option Nat) (x3 : Int32) (hA : ∀ q, sz ≤ q → A q) (hD : va_D A [(sy, .inr (3, [.int x0, .int x1, va_rf x2, .int x3]))]) : Met l yX3_init (ws_ yX3_init cX3_init 1 none) ({ frames := 4, cells := 2, slots := 5, locals := 110 }) (va_Pc [.ref sy] (zP D dA ad A sz (fun H => va_P D vwCl [(sy, .inr (3, [.int x0, .int x1, va_rf x2, .int x3]))] H))) (zQv (fun H => ∃ bs : Nat, ∃ bw : Nat, True ∧ va_P D vwCl [(sy, .inr (3, [.int x0, .int x1, .ref bs, .int x3])), (bs, .inr (10, [.ref bw, .int (nI (uOf 0)), .int (nI (1))])), (bw, .inl (dA 1, 2, .inr (.inl (lwd 0))))] H ∧ va_D A [(sy, .inr (3, [.int x0, .int x1, .ref bs, .int x3])), (bs, .inr (10, [.ref bw, .int (nI (uOf 0)), .int (nI (1))])), (bw, .inl (dA 1, 2, .inr (.inl (lwd 0))))]) A) (2) (5) A := by
  refine Met.ofW (cc := cX3_init) (maxL := 1) (ret := none) (by decide) rfl ?_
  intro p e s m args below meth c s₁ B hml hv
  obtain ⟨rfl, hsz, hC, hP⟩ := hv
  have hx := B.exec
  have hb := B.bytes
  have hr := B.returns
  have hts := atoms_spec (ws := ws_ yX3_init cX3_init 1 none) B.pre
  have hts : ∀ w ∈ lw_all, w.before _ s = true := fun w h => hts w (List.mem_cons_of_mem _ h)
  have hown : s.vm.findClass RX3 = some m.cls := findClass_of_methodNamed B.named
  have hlocks := B.notSynchronized
  have hin : meth.name = "<init>" := (name_of_methodNamed B.named B.method).1
  subst hsz
  have hK := hC.K
  have hS : va_S A s.heap s.heap [] := va_S.rf
  have hP : va_P D vwCl [(sy, .inr (3, [.int x0, .int x1, va_rf x2, .int x3]))] s.heap := hP
  have hl := lv_entry ([.ref sy]) (n := 1) (Nat.le_of_ble_eq_true rfl)
  rw [lg_entry_eq]
  generalize (lg_sl ([.ref sy]) ++ List.replicate (1 - (lg_sl ([.ref sy])).length) Slot.unset).toArray = ls at hl ⊢
  have hl : lv_has ls 1 [(0, .ref sy)] := hl
  refine lv_aload_n hx hb dX3_init_0 rfl (lv_at hl 0 rfl) ?_
  refine W.objInit hx hb hown (hts _ q146) (hts _ q92) (hts _ q93) rfl (by rw [hml]; exact hl.1) rfl dX3_init_1 (Nat.le_of_ble_eq_true rfl) (Nat.le_of_ble_eq_true rfl) ?_
  refine W.eq (g2 := F0 m 4 ls []) rfl ?_
  refine lv_aload_n hx hb dX3_init_4 rfl (lv_at hl 0 rfl) ?_
  refine va_new (D := D) (ci := 10) (fs := [.null, .int 0, .int 0]) (C := RJ3) (T := TJ3) (N := 3) hx hb hts in_J3 tyJ3 tyJ3_ok hown (hts _ q147) (hts _ q148) (hts _ q61) hK hP hD hS hA rfl (fun j hj => by match j, hj with | 0, _ => rfl | 1, _ => rfl | 2, _ => rfl | j + 3, hj => exact absurd hj (by omega)) (by first | exact Nat.le_of_ble_eq_true rfl | (show _ ≤ _; simp only [headSpec]; omega)) (by first | exact Nat.le_of_ble_eq_true rfl | (show _ ≤ _; simp only [headSpec]; omega)) dX3_init_5 (fun qn H hP hD hS => ?_)
  have hP : va_P D vwCl [(sy, .inr (3, [.int x0, .int x1, va_rf x2, .int x3])), (qn, .inr (10, [.null, .int 0, .int 0]))] H := hP
  have hD : va_D A [(sy, .inr (3, [.int x0, .int x1, va_rf x2, .int x3])), (qn, .inr (10, [.null, .int 0, .int 0]))] := hD
  refine lv_dup hx hb dX3_init_8 rfl ?_
  refine lv_bipush (v := nI (101)) hx hb dX3_init_9 (by decide) ?_
  have hDc := (hD.sub (ws' := [(qn, .inr (10, [.null, .int 0, .int 0]))]) [1] (by decide) rfl).self (sz := H.size)
  have hFc := va_free (wc := [(qn, .inr (10, [.null, .int 0, .int 0]))]) hD hS hA [1] rfl
  refine z_cIv (As := [.int (nI (101))]) (rest := [.ref qn, .ref sy]) ⟨hx, hb, hml, hown, hts⟩ (mJ3_init l D dA ad (va_A [(qn, .inr (10, [.null, .int 0, .int 0]))] H.size) H.size qn none 0 0 (fun _ h => Or.inr h) hDc) (cwI 1 hts (lw_meth q151) rfl rfl rfl (hts _ q61) (hts _ q149) (hts _ q150) rfl (by decide +kernel) ⟨Nat.le_of_ble_eq_true rfl, Nat.le_of_ble_eq_true rfl⟩) hC hS (hFc) (hP.sub (ws' := [(qn, .inr (10, [.null, .int 0, .int 0]))]) [1] rfl) rfl rfl hl.1 (Nat.le_of_ble_eq_true rfl) dX3_init_11 ⟨Nat.le_of_ble_eq_true rfl, Nat.le_of_ble_eq_true rfl⟩ (fun H locs hQ hF hS => ?_)
  obtain ⟨bw_2, hQ, hP1, hD1⟩ := hQ
  obtain ⟨hP, hD⟩ := va_join (wr := [(sy, .inr (3, [.int x0, .int x1, va_rf x2, .int x3]))]) (w1 := [(qn, .inr (10, [.ref bw_2, .int (nI (uOf 0)), .int (nI (1))])), (bw_2, .inl (dA 1, 2, .inr (.inl (lwd 0))))]) hP hD [1] [0] rfl rfl (by decide) (by decide) hF.2 hFc hP1 hD1
  have hP : va_P D vwCl [(sy, .inr (3, [.int x0, .int x1, va_rf x2, .int x3])), (qn, .inr (10, [.ref bw_2, .int (nI (uOf 0)), .int (nI (1))])), (bw_2, .inl (dA 1, 2, .inr (.inl (lwd 0))))] H := hP
  have hD : va_D A [(sy, .inr (3, [.int x0, .int x1, va_rf x2, .int x3])), (qn, .inr (10, [.ref bw_2, .int (nI (uOf 0)), .int (nI (1))])), (bw_2, .inl (dA 1, 2, .inr (.inl (lwd 0))))] := hD
  refine va_put (D := D) (ci := 3) (v := .ref qn) (ty := .object "java/util/BitSet") (C := RX3) (T := TX3) (N := 4) hx hb hts in_X3 tyX3 tyX3_ok nmX3 hown hK hP hD hS 0 rfl rfl 2 (by decide) (hts _ q177) (fun _ h9 => h9) rfl (by decide +kernel) rfl rfl (Nat.le_of_ble_eq_true rfl) dX3_init_14 (fun H locs hP hD hS => ?_)
  have hP : va_P D vwCl [(sy, .inr (3, [.int x0, .int x1, .ref qn, .int x3])), (qn, .inr (10, [.ref bw_2, .int (nI (uOf 0)), .int (nI (1))])), (bw_2, .inl (dA 1, 2, .inr (.inl (lwd 0))))] H := hP
  have hD : va_D A [(sy, .inr (3, [.int x0, .int x1, .ref qn, .int x3])), (qn, .inr (10, [.ref bw_2, .int (nI (uOf 0)), .int (nI (1))])), (bw_2, .inl (dA 1, 2, .inr (.inl (lwd 0))))] := hD
  exact z_vret hx hb hr hS (⟨qn, bw_2, trivial, hP, hD⟩) (by decide) (by decide) dX3_init_17

set_option maxHeartbeats 4000000 in
set_option maxRecDepth 100000 in
theorem mX3_isAt (l : Launch) (D : va_G) (dA : Nat → ClassId) (ad : Nat → Nat) (A : Nat → Prop) (sz : Nat) (sy : Nat) (x0 : Int32) (x1 : Int32) (x2 : Option Nat) (x3 : Int32) (i : Int32) (b : Int32) (hA : ∀ q, sz ≤ q → A q) (hb9 : b = 0 ∨ b = 1) (hD : va_D A [(sy, .inr (3, [.int x0, .int x1, va_rf x2, .int x3]))]) : Met l yX3_isAt (ws_ yX3_isAt cX3_isAt 3 none) ({ frames := 4, cells := 2, slots := 5, locals := 110 }) (va_Pc [.ref sy, .int i, .int b] (zP D dA ad A sz (fun H => va_P D vwCl [(sy, .inr (3, [.int x0, .int x1, va_rf x2, .int x3]))] H))) (zQv (fun H => ∃ bs : Nat, ∃ bw : Nat, True ∧ va_P D vwCl [(sy, .inr (3, [.int i, .int i, .ref bs, .int b])), (bs, .inr (10, [.ref bw, .int (nI (uOf 0)), .int (nI (1))])), (bw, .inl (dA 1, 2, .inr (.inl (lwd 0))))] H ∧ va_D A [(sy, .inr (3, [.int i, .int i, .ref bs, .int b])), (bs, .inr (10, [.ref bw, .int (nI (uOf 0)), .int (nI (1))])), (bw, .inl (dA 1, 2, .inr (.inl (lwd 0))))]) A) (2) (5) A := by
  refine Met.ofW (cc := cX3_isAt) (maxL := 3) (ret := none) (by decide) rfl ?_
  intro p e s m args below meth c s₁ B hml hv
  obtain ⟨rfl, hsz, hC, hP⟩ := hv
  have hx := B.exec
  have hb := B.bytes
  have hr := B.returns
  have hts := atoms_spec (ws := ws_ yX3_isAt cX3_isAt 3 none) B.pre
  have hts : ∀ w ∈ lw_all, w.before _ s = true := fun w h => hts w (List.mem_cons_of_mem _ h)
  have hown : s.vm.findClass RX3 = some m.cls := findClass_of_methodNamed B.named
  have hlocks := B.notSynchronized
  subst hsz
  have hK := hC.K
  have hS : va_S A s.heap s.heap [] := va_S.rf
  have hP : va_P D vwCl [(sy, .inr (3, [.int x0, .int x1, va_rf x2, .int x3]))] s.heap := hP
  have hl := lv_entry ([.ref sy, .int i, .int b]) (n := 3) (Nat.le_of_ble_eq_true rfl)
  rw [lg_entry_eq]
  generalize (lg_sl ([.ref sy, .int i, .int b]) ++ List.replicate (3 - (lg_sl ([.ref sy, .int i, .int b])).length) Slot.unset).toArray = ls at hl ⊢
  have hl : lv_has ls 3 [(0, .ref sy), (1, .int i), (2, .int b)] := hl
  refine lv_aload_n hx hb dX3_isAt_0 rfl (lv_at hl 0 rfl) ?_
  refine lv_iload_n hx hb dX3_isAt_1 rfl (lv_at hl 1 rfl) ?_
  refine va_put (D := D) (ci := 3) (v := .int i) (ty := .int) (C := RX3) (T := TX3) (N := 4) hx hb hts in_X3 tyX3 tyX3_ok nmX3 hown hK hP hD hS 0 rfl rfl 0 (by decide) (hts _ q171) (fun _ h9 => h9) rfl (by decide +kernel) rfl rfl (Nat.le_of_ble_eq_true rfl) dX3_isAt_2 (fun H locs hP hD hS => ?_)
  have hP : va_P D vwCl [(sy, .inr (3, [.int i, .int x1, va_rf x2, .int x3]))] H := hP
  have hD : va_D A [(sy, .inr (3, [.int i, .int x1, va_rf x2, .int x3]))] := hD
  refine lv_aload_n hx hb dX3_isAt_5 rfl (lv_at hl 0 rfl) ?_
  refine lv_iload_n hx hb dX3_isAt_6 rfl (lv_at hl 1 rfl) ?_
  refine va_put (D := D) (ci := 3) (v := .int i) (ty := .int) (C := RX3) (T := TX3) (N := 4) hx hb hts in_X3 tyX3 tyX3_ok nmX3 hown hK hP hD hS 0 rfl rfl 1 (by decide) (hts _ q174) (fun _ h9 => h9) rfl (by decide +kernel) rfl rfl (Nat.le_of_ble_eq_true rfl) dX3_isAt_7 (fun H locs hP hD hS => ?_)
  have hP : va_P D vwCl [(sy, .inr (3, [.int i, .int i, va_rf x2, .int x3]))] H := hP
  have hD : va_D A [(sy, .inr (3, [.int i, .int i, va_rf x2, .int x3]))] := hD
  refine lv_aload_n hx hb dX3_isAt_10 rfl (lv_at hl 0 rfl) ?_
  refine va_new (D := D) (ci := 10) (fs := [.null, .int 0, .int 0]) (C := RJ3) (T := TJ3) (N := 3) hx hb hts in_J3 tyJ3 tyJ3_ok hown (hts _ q147) (hts _ q148) (hts _ q61) hK hP hD hS hA rfl (fun j hj => by match j, hj with | 0, _ => rfl | 1, _ => rfl | 2, _ => rfl | j + 3, hj => exact absurd hj (by omega)) (by first | exact Nat.le_of_ble_eq_true rfl | (show _ ≤ _; simp only [headSpec]; omega)) (by first | exact Nat.le_of_ble_eq_true rfl | (show _ ≤ _; simp only [headSpec]; omega)) dX3_isAt_11 (fun qn H hP hD hS => ?_)
  have hP : va_P D vwCl [(sy, .inr (3, [.int i, .int i, va_rf x2, .int x3])), (qn, .inr (10, [.null, .int 0, .int 0]))] H := hP
  have hD : va_D A [(sy, .inr (3, [.int i, .int i, va_rf x2, .int x3])), (qn, .inr (10, [.null, .int 0, .int 0]))] := hD
  refine lv_dup hx hb dX3_isAt_14 rfl ?_
  refine lv_bipush (v := nI (101)) hx hb dX3_isAt_15 (by decide) ?_
  have hDc := (hD.sub (ws' := [(qn, .inr (10, [.null, .int 0, .int 0]))]) [1] (by decide) rfl).self (sz := H.size)
  have hFc := va_free (wc := [(qn, .inr (10, [.null, .int 0, .int 0]))]) hD hS hA [1] rfl
  refine z_cIv (As := [.int (nI (101))]) (rest := [.ref qn, .ref sy]) ⟨hx, hb, hml, hown, hts⟩ (mJ3_init l D dA ad (va_A [(qn, .inr (10, [.null, .int 0, .int 0]))] H.size) H.size qn none 0 0 (fun _ h => Or.inr h) hDc) (cwI 1 hts (lw_meth q151) rfl rfl rfl (hts _ q61) (hts _ q149) (hts _ q150) rfl (by decide +kernel) ⟨Nat.le_of_ble_eq_true rfl, Nat.le_of_ble_eq_true rfl⟩) hC hS (hFc) (hP.sub (ws' := [(qn, .inr (10, [.null, .int 0, .int 0]))]) [1] rfl) rfl rfl hl.1 (Nat.le_of_ble_eq_true rfl) dX3_isAt_17 ⟨Nat.le_of_ble_eq_true rfl, Nat.le_of_ble_eq_true rfl⟩ (fun H locs hQ hF hS => ?_)
  obtain ⟨bw_2, hQ, hP1, hD1⟩ := hQ
  obtain ⟨hP, hD⟩ := va_join (wr := [(sy, .inr (3, [.int i, .int i, va_rf x2, .int x3]))]) (w1 := [(qn, .inr (10, [.ref bw_2, .int (nI (uOf 0)), .int (nI (1))])), (bw_2, .inl (dA 1, 2, .inr (.inl (lwd 0))))]) hP hD [1] [0] rfl rfl (by decide) (by decide) hF.2 hFc hP1 hD1
  have hP : va_P D vwCl [(sy, .inr (3, [.int i, .int i, va_rf x2, .int x3])), (qn, .inr (10, [.ref bw_2, .int (nI (uOf 0)), .int (nI (1))])), (bw_2, .inl (dA 1, 2, .inr (.inl (lwd 0))))] H := hP
  have hD : va_D A [(sy, .inr (3, [.int i, .int i, va_rf x2, .int x3])), (qn, .inr (10, [.ref bw_2, .int (nI (uOf 0)), .int (nI (1))])), (bw_2, .inl (dA 1, 2, .inr (.inl (lwd 0))))] := hD
  refine va_put (D := D) (ci := 3) (v := .ref qn) (ty := .object "java/util/BitSet") (C := RX3) (T := TX3) (N := 4) hx hb hts in_X3 tyX3 tyX3_ok nmX3 hown hK hP hD hS 0 rfl rfl 2 (by decide) (hts _ q177) (fun _ h9 => h9) rfl (by decide +kernel) rfl rfl (Nat.le_of_ble_eq_true rfl) dX3_isAt_20 (fun H locs hP hD hS => ?_)
  have hP : va_P D vwCl [(sy, .inr (3, [.int i, .int i, .ref qn, .int x3])), (qn, .inr (10, [.ref bw_2, .int (nI (uOf 0)), .int (nI (1))])), (bw_2, .inl (dA 1, 2, .inr (.inl (lwd 0))))] H := hP
  have hD : va_D A [(sy, .inr (3, [.int i, .int i, .ref qn, .int x3])), (qn, .inr (10, [.ref bw_2, .int (nI (uOf 0)), .int (nI (1))])), (bw_2, .inl (dA 1, 2, .inr (.inl (lwd 0))))] := hD
  refine lv_aload_n hx hb dX3_isAt_23 rfl (lv_at hl 0 rfl) ?_
  refine lv_iload_n hx hb dX3_isAt_24 rfl (lv_at hl 2 rfl) ?_
  refine va_put (D := D) (ci := 3) (v := .int b) (ty := .boolean) (C := RX3) (T := TX3) (N := 4) hx hb hts in_X3 tyX3 tyX3_ok nmX3 hown hK hP hD hS 0 rfl rfl 3 (by decide) (hts _ q180) (fun _ h9 => h9) rfl (by decide +kernel) (by rcases hb9 with rfl | rfl <;> rfl) (by rcases hb9 with rfl | rfl <;> rfl) (Nat.le_of_ble_eq_true rfl) dX3_isAt_25 (fun H locs hP hD hS => ?_)
  have hP : va_P D vwCl [(sy, .inr (3, [.int i, .int i, .ref qn, .int b])), (qn, .inr (10, [.ref bw_2, .int (nI (uOf 0)), .int (nI (1))])), (bw_2, .inl (dA 1, 2, .inr (.inl (lwd 0))))] H := hP
  have hD : va_D A [(sy, .inr (3, [.int i, .int i, .ref qn, .int b])), (qn, .inr (10, [.ref bw_2, .int (nI (uOf 0)), .int (nI (1))])), (bw_2, .inl (dA 1, 2, .inr (.inl (lwd 0))))] := hD
  exact z_vret hx hb hr hS (⟨qn, bw_2, trivial, hP, hD⟩) (by decide) (by decide) dX3_isAt_28
