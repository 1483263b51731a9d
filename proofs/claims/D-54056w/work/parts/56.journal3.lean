set_option maxHeartbeats 4000000 in
set_option maxRecDepth 100000 in
theorem mX2_init_2 (l : Launch) (D : va_G) (dA : Nat → ClassId) (ad : Nat → Nat) (A : Nat → Prop) (sz : Nat) (jn : Nat) (x0 : Option Nat) (sj : Nat) (sl : Nat) (smc : Int32) (sae : Nat) (n : Nat) (cap : Nat) (g : Nat → Option Nat) (hA : ∀ q, sz ≤ q → A q) (h1 : 1 ≤ n) (h2 : n ≤ 100) (h3 : n ≤ cap) (h4 : cap ≤ 10000) (hD : va_D A [(jn, .inr (2, [va_rf x0]))]) : Met l yX2_init_2 (ws_ yX2_init_2 cX2_init_2 4 none) ({ frames := 9, cells := 9, slots := 318, locals := 300 }) (va_Pc [.ref jn, .ref sj] (zP D dA ad A sz (fun H => va_P D vwCl [(jn, .inr (2, [va_rf x0]))] H ∧ zFz D A [(sj, .inr (2, [.ref sl])), (sl, .inr (9, [.int smc, .ref sae, .int (nI (n))])), (sae, .inl (dA 3, cap, .inr (.inr (.inr (.inr g)))))] H ∧ NtG D A g n H))) (zQv (fun H => ∃ al : Nat, ∃ aq : Nat, True ∧ va_P D vwCl [(jn, .inr (2, [.ref al])), (al, .inr (9, [.int (nI (n)), .ref aq, .int (nI (n))])), (aq, .inl (dA 3, capF n, .inr (.inr (.inr (.inr (pfx g n))))))] H ∧ va_D A [(jn, .inr (2, [.ref al])), (al, .inr (9, [.int (nI (n)), .ref aq, .int (nI (n))])), (aq, .inl (dA 3, capF n, .inr (.inr (.inr (.inr (pfx g n))))))]) A) (9) (318) A := by
  refine Met.ofW (cc := cX2_init_2) (maxL := 4) (ret := none) (by decide) rfl ?_
  intro p e s m args below meth c s₁ B hml hv
  obtain ⟨rfl, hsz, hC, hP⟩ := hv
  have hx := B.exec
  have hb := B.bytes
  have hr := B.returns
  have hts := atoms_spec (ws := ws_ yX2_init_2 cX2_init_2 4 none) B.pre
  have hts : ∀ w ∈ lw_all, w.before _ s = true := fun w h => hts w (List.mem_cons_of_mem _ h)
  have hown : s.vm.findClass RX2 = some m.cls := findClass_of_methodNamed B.named
  have hlocks := B.notSynchronized
  have hin : meth.name = "<init>" := (name_of_methodNamed B.named B.method).1
  subst hsz
  have hK := hC.K
  have hS : va_S A s.heap s.heap [] := va_S.rf
  obtain ⟨hP, hZ, hP2⟩ := hP
  have hP : va_P D vwCl [(jn, .inr (2, [va_rf x0]))] s.heap := hP
  have hl := lv_entry ([.ref jn, .ref sj]) (n := 4) (Nat.le_of_ble_eq_true rfl)
  rw [lg_entry_eq]
  generalize (lg_sl ([.ref jn, .ref sj]) ++ List.replicate (4 - (lg_sl ([.ref jn, .ref sj])).length) Slot.unset).toArray = ls at hl ⊢
  have hl : lv_has ls 4 [(0, .ref jn), (1, .ref sj)] := hl
  refine lv_aload_n hx hb dX2_init_2_0 rfl (lv_at hl 0 rfl) ?_
  refine W.objInit hx hb hown (hts _ q107) (hts _ q92) (hts _ q93) rfl (by rw [hml]; exact hl.1) rfl dX2_init_2_1 (Nat.le_of_ble_eq_true rfl) (Nat.le_of_ble_eq_true rfl) ?_
  refine W.eq (g2 := F0 m 4 ls []) rfl ?_
  refine lv_aload_n hx hb dX2_init_2_4 rfl (lv_at hl 0 rfl) ?_
  refine va_new (D := D) (ci := 9) (fs := [.int 0, .null, .int 0]) (C := RJ2) (T := TJ2) (N := 3) hx hb hts in_J2 tyJ2 tyJ2_ok hown (hts _ q108) (hts _ q109) (hts _ q59) hK hP hD hS hA rfl (fun j hj => by match j, hj with | 0, _ => rfl | 1, _ => rfl | 2, _ => rfl | j + 3, hj => exact absurd hj (by omega)) (by first | exact Nat.le_of_ble_eq_true rfl | (show _ ≤ _; simp only [headSpec]; omega)) (by first | exact Nat.le_of_ble_eq_true rfl | (show _ ≤ _; simp only [headSpec]; omega)) dX2_init_2_5 (fun qn H hP hD hS => ?_)
  have hP : va_P D vwCl [(jn, .inr (2, [va_rf x0])), (qn, .inr (9, [.int 0, .null, .int 0]))] H := hP
  have hD : va_D A [(jn, .inr (2, [va_rf x0])), (qn, .inr (9, [.int 0, .null, .int 0]))] := hD
  refine lv_dup hx hb dX2_init_2_8 rfl ?_
  have hDc := (hD.sub (ws' := [(qn, .inr (9, [.int 0, .null, .int 0]))]) [1] (by decide) rfl).self (sz := H.size)
  have hFc := va_free (wc := [(qn, .inr (9, [.int 0, .null, .int 0]))]) hD hS hA [1] rfl
  refine z_cIv (As := []) (rest := [.ref qn, .ref jn]) ⟨hx, hb, hml, hown, hts⟩ (mJ2_init l D dA ad (va_A [(qn, .inr (9, [.int 0, .null, .int 0]))] H.size) H.size qn 0 none 0 (fun _ h => Or.inr h) hDc) (cwI 0 hts (lw_meth q112) rfl rfl rfl (hts _ q59) (hts _ q110) (hts _ q111) rfl (by decide +kernel) ⟨Nat.le_of_ble_eq_true rfl, Nat.le_of_ble_eq_true rfl⟩) hC hS (hFc) (hP.sub (ws' := [(qn, .inr (9, [.int 0, .null, .int 0]))]) [1] rfl) rfl rfl hl.1 (Nat.le_of_ble_eq_true rfl) dX2_init_2_9 ⟨by first | exact Nat.le_of_ble_eq_true rfl | (show _ ≤ _; simp only [headSpec]; omega), by first | exact Nat.le_of_ble_eq_true rfl | (show _ ≤ _; simp only [headSpec]; omega)⟩ (fun H locs hQ hF hS => ?_)
  obtain ⟨hQ, hP1⟩ := hQ
  obtain ⟨hP, hD⟩ := va_join (wr := [(jn, .inr (2, [va_rf x0]))]) (w1 := [(qn, .inr (9, [.int (nI (0)), .ref (ad 0), .int 0]))]) hP hD [1] [0] rfl rfl (by decide) (by decide) hF.2 hFc hP1 (hDc.same rfl)
  have hP := hP.sub (ws' := [(jn, .inr (2, [va_rf x0])), (qn, .inr (9, [.int (nI (0)), .ref (ad 0), .int 0]))]) [0, 1] rfl
  have hD := hD.sub (ws' := [(jn, .inr (2, [va_rf x0])), (qn, .inr (9, [.int (nI (0)), .ref (ad 0), .int 0]))]) [0, 1] (by decide) rfl
  refine va_putF (D := D) (ci := 2) (v := .ref qn) (ty := .object "java/util/ArrayList") (C := RX2) (T := TX2) (N := 1) hx hb hts in_X2 tyX2 tyX2_ok nmX2 hown hK hP hD hS 0 rfl rfl 0 (by decide) (hts _ q138) (fun _ h9 => h9) rfl hin (by rfl) (by decide +kernel) rfl rfl (Nat.le_of_ble_eq_true rfl) dX2_init_2_12 (fun H locs hP hD hS => ?_)
  have hP : va_P D vwCl [(jn, .inr (2, [.ref qn])), (qn, .inr (9, [.int (nI (0)), .ref (ad 0), .int 0]))] H := hP
  have hD : va_D A [(jn, .inr (2, [.ref qn])), (qn, .inr (9, [.int (nI (0)), .ref (ad 0), .int 0]))] := hD
  refine lv_aload_n hx hb dX2_init_2_15 rfl (lv_at hl 1 rfl) ?_
  refine va_get (D := D) (ci := 2) (v := .ref sl) (C := RX2) (T := TX2) (N := 1) hx hb hts in_X2 hown hK (hZ.at hS) 0 rfl rfl 0 (by decide) (hts _ q138) (fun _ h9 => h9) rfl dX2_init_2_16 ?_
  have hSo := hS
  refine z_cVr (As := []) (rest := []) ⟨hx, hb, hml, hown, hts⟩ (mJ2_iterator l D dA ad H.size sl smc sae n) (cwV 0 hts (lw_V q310 q311 q312 q59 q313) rfl rfl rfl (by decide +kernel) ⟨Nat.le_of_ble_eq_true rfl, Nat.le_of_ble_eq_true rfl⟩) hC hS (fun _ h => hA _ (Nat.le_trans hS.1 h)) ((hZ.at hS).sub (ws' := [(sl, .inr (9, [.int smc, .ref sae, .int (nI (n))]))]) [1] rfl) (va_recv hK (hZ.at hS) (ci := 9) (q0 := 1) rfl rfl) rfl rfl hl.1 (Nat.le_of_ble_eq_true rfl) dX2_init_2_19 ⟨by first | exact Nat.le_of_ble_eq_true rfl | (show _ ≤ _; simp only [headSpec]; omega), by first | exact Nat.le_of_ble_eq_true rfl | (show _ ≤ _; simp only [headSpec]; omega)⟩ (fun r_2 H locs hQ hF hS => ?_)
  obtain ⟨hQ, hP1, hD1⟩ := hQ
  obtain ⟨hP, hD⟩ := z_addnew (hA_up hA hSo) hP hD hF hP1 hD1
  have hP : va_P D vwCl [(jn, .inr (2, [.ref qn])), (qn, .inr (9, [.int (nI (0)), .ref (ad 0), .int 0])), (r_2, .inr (13, [.int (nI (0)), .int (-1), .int smc, .ref sl]))] H := hP
  have hD : va_D A [(jn, .inr (2, [.ref qn])), (qn, .inr (9, [.int (nI (0)), .ref (ad 0), .int 0])), (r_2, .inr (13, [.int (nI (0)), .int (-1), .int smc, .ref sl]))] := hD
  refine lv_astore_n (lv' := [(2, .ref r_2), (0, .ref jn), (1, .ref sj)]) hx hb dX2_init_2_22 rfl hl (by decide) rfl (fun ls hl => ?_)
  refine lv_aload_n hx hb dX2_init_2_23 rfl (lv_at hl 0 rfl) ?_
  refine z_cFi (hC.K.1 13 _ rfl).2 (As := []) (rest := []) ⟨hx, hb, hml, hown, hts⟩ (mJ9_hasNext l D dA ad H.size r_2 0 (-1) sl smc sae n (by omega) (by omega)) (va_cwF 0 hts (lw_F q334 q338 q340 q68 q342) rfl rfl rfl (Cx.nI hC (List.mem_of_getElem? (i := 4) rfl)) (by decide +kernel) ⟨Nat.le_of_ble_eq_true rfl, Nat.le_of_ble_eq_true rfl⟩) hC hS (fun _ h => hA _ (Nat.le_trans hS.1 h)) ((hP.app (hZ.at hS)).sub (ws' := [(r_2, .inr (13, [.int (nI (0)), .int (-1), .int smc, .ref sl])), (sl, .inr (9, [.int smc, .ref sae, .int (nI (n))]))]) [2, 4] rfl) (va_recv hK hP (ci := 13) (q0 := 2) rfl rfl) rfl rfl hl.1 (Nat.le_of_ble_eq_true rfl) dX2_init_2_24 ⟨by first | exact Nat.le_of_ble_eq_true rfl | (show _ ≤ _; simp only [headSpec]; omega), by first | exact Nat.le_of_ble_eq_true rfl | (show _ ≤ _; simp only [headSpec]; omega)⟩ (fun r_3 H locs hQ hF hS => ?_)
  have hP := va_P.ro hF hP
  obtain rfl : bI (0 ≠ n) = r_3 := hQ.symm
  refine lv_if_eq (tgt := 54) hx hb dX2_init_2_29 (by decide) (fun c_4 => ?_) (fun c_4 => ?_)
  · have c_4 := bI_0.1 c_4
    exact absurd (show False by omega) not_false
  · have c_4 := bI_1.1 c_4
    refine lv_aload_n hx hb dX2_init_2_32 rfl (lv_at hl 0 rfl) ?_
    obtain ⟨y9, vs9, hy1, hy2, hy3⟩ := hP2 (0) (by omega)
    have hV9 : NtV D A y9 s.heap := ⟨vs9, hy2, hy3⟩
    have hDc := (hD.sub (ws' := [(r_2, .inr (13, [.int (nI (0)), .int (-1), .int smc, .ref sl]))]) [2] (by decide) rfl).self (sz := H.size)
    have hFc := va_free (wc := [(r_2, .inr (13, [.int (nI (0)), .int (-1), .int smc, .ref sl]))]) hD hS hA [2] rfl
    refine z_cFr (hC.K.1 13 _ rfl).2 (As := []) (rest := []) ⟨hx, hb, hml, hown, hts⟩ (mJ9_next l D dA ad (va_A [(r_2, .inr (13, [.int (nI (0)), .int (-1), .int smc, .ref sl]))] H.size) H.size r_2 0 (-1) sl smc sae n cap g y9 (fun _ h => Or.inr h) (by omega) (by omega) (by omega) (hy1) hDc) (va_cwF 0 hts (lw_F q344 q347 q349 q68 q351) rfl rfl rfl (Cx.nI hC (List.mem_of_getElem? (i := 5) rfl)) (by decide +kernel) ⟨Nat.le_of_ble_eq_true rfl, Nat.le_of_ble_eq_true rfl⟩) hC hS (hFc) ⟨(hP.sub (ws' := [(r_2, .inr (13, [.int (nI (0)), .int (-1), .int smc, .ref sl]))]) [2] rfl), (zFz_mk ((hZ.at hS).sub (ws' := [(sl, .inr (9, [.int smc, .ref sae, .int (nI (n))])), (sae, .inl (dA 3, cap, .inr (.inr (.inr (.inr g)))))]) [1, 2] rfl) (fun k q hk => by match k, hk with | 0, hk => cases hk; exact (fun h9 => hZ.out (q0 := 1) rfl (hFc _ h9)) | 1, hk => cases hk; exact (fun h9 => hZ.out (q0 := 2) rfl (hFc _ h9)) | k + 2, hk => simp at hk))⟩ (va_recv hK hP (ci := 13) (q0 := 2) rfl rfl) rfl rfl hl.1 (Nat.le_of_ble_eq_true rfl) dX2_init_2_33 ⟨by first | exact Nat.le_of_ble_eq_true rfl | (show _ ≤ _; simp only [headSpec]; omega), by first | exact Nat.le_of_ble_eq_true rfl | (show _ ≤ _; simp only [headSpec]; omega)⟩ (fun r_5 H locs hQ hF hS => ?_)
    obtain ⟨hQ, hP1⟩ := hQ
    obtain ⟨hP, hD⟩ := va_join (wr := [(jn, .inr (2, [.ref qn])), (qn, .inr (9, [.int (nI (0)), .ref (ad 0), .int 0]))]) (w1 := [(r_2, .inr (13, [.int (nI (0 + 1)), .int (nI (0)), .int smc, .ref sl]))]) hP hD [2] [0, 1] rfl rfl (by decide) (by decide) hF.2 hFc hP1 (hDc.same rfl)
    have hP := hP.sub (ws' := [(jn, .inr (2, [.ref qn])), (qn, .inr (9, [.int (nI (0)), .ref (ad 0), .int 0])), (r_2, .inr (13, [.int (nI (0 + 1)), .int (nI (0)), .int smc, .ref sl]))]) [0, 1, 2] rfl
    have hD := hD.sub (ws' := [(jn, .inr (2, [.ref qn])), (qn, .inr (9, [.int (nI (0)), .ref (ad 0), .int 0])), (r_2, .inr (13, [.int (nI (0 + 1)), .int (nI (0)), .int smc, .ref sl]))]) [0, 1, 2] (by decide) rfl
    obtain rfl : y9 = r_5 := hQ.symm
    refine va_castY hx hb hown (hts _ q356) (Cx.nC hC (t := ("FencedStandbys$Note", "FencedStandbys$Written")) (List.mem_of_getElem? (i := 17) rfl)) ((hV9.kept hS).recv hC) dX2_init_2_38 ?_
    refine lv_astore_n (lv' := [(3, .ref y9), (2, .ref r_2), (0, .ref jn), (1, .ref sj)]) hx hb dX2_init_2_41 rfl hl (by decide) rfl (fun ls hl => ?_)
    refine lv_aload_n hx hb dX2_init_2_42 rfl (lv_at hl 2 rfl) ?_
    refine va_get (D := D) (ci := 2) (v := .ref qn) (C := RX2) (T := TX2) (N := 1) hx hb hts in_X2 hown hK hP 0 rfl rfl 0 (by decide) (hts _ q138) (fun _ h9 => h9) rfl dX2_init_2_43 ?_
    refine lv_aload_n hx hb dX2_init_2_46 rfl (lv_at hl 0 rfl) ?_
    have hDc := (hD.sub (ws' := [(qn, .inr (9, [.int (nI (0)), .ref (ad 0), .int 0]))]) [1] (by decide) rfl).self (sz := H.size)
    have hFc := va_free (wc := [(qn, .inr (9, [.int (nI (0)), .ref (ad 0), .int 0]))]) hD hS hA [1] rfl
    refine z_cVi (As := [.ref y9]) (rest := []) ⟨hx, hb, hml, hown, hts⟩ (mJ2_addA l D dA ad (va_A [(qn, .inr (9, [.int (nI (0)), .ref (ad 0), .int 0]))] H.size) H.size qn (nI (0)) y9 (fun _ h => Or.inr h) hDc) (cwV 1 hts (lw_V q357 q358 q359 q59 q360) rfl rfl rfl (by decide +kernel) ⟨Nat.le_of_ble_eq_true rfl, Nat.le_of_ble_eq_true rfl⟩) hC hS (hFc) ⟨(hP.sub (ws' := [(qn, .inr (9, [.int (nI (0)), .ref (ad 0), .int 0]))]) [1] rfl), (hV9.kept hS).narrow hFc⟩ (va_recv hK hP (ci := 9) (q0 := 1) rfl rfl) rfl rfl hl.1 (Nat.le_of_ble_eq_true rfl) dX2_init_2_47 ⟨by first | exact Nat.le_of_ble_eq_true rfl | (show _ ≤ _; simp only [headSpec]; omega), by first | exact Nat.le_of_ble_eq_true rfl | (show _ ≤ _; simp only [headSpec]; omega)⟩ (fun r_6 H locs hQ hF hS => ?_)
    obtain ⟨q_7, hQ, hP1, hD1⟩ := hQ
    obtain ⟨hP, hD⟩ := va_join (wr := [(jn, .inr (2, [.ref qn])), (r_2, .inr (13, [.int (nI (0 + 1)), .int (nI (0)), .int smc, .ref sl]))]) (w1 := [(qn, .inr (9, [.int ((nI (0)) + nI (1)), .ref q_7, .int (nI (1))])), (q_7, .inl (dA 3, 10, .inr (.inr (.inr (.inr (va_up (fun _ => none) 0 (some y9)))))))]) hP hD [1] [0, 2] rfl rfl (by decide) (by decide) hF.2 hFc hP1 hD1
    have hP : va_P D vwCl [(jn, .inr (2, [.ref qn])), (r_2, .inr (13, [.int (nI (0 + 1)), .int (nI (0)), .int smc, .ref sl])), (qn, .inr (9, [.int ((nI (0)) + nI (1)), .ref q_7, .int (nI (1))])), (q_7, .inl (dA 3, 10, .inr (.inr (.inr (.inr (va_up (fun _ => none) 0 (some y9)))))))] H := hP
    have hD : va_D A [(jn, .inr (2, [.ref qn])), (r_2, .inr (13, [.int (nI (0 + 1)), .int (nI (0)), .int smc, .ref sl])), (qn, .inr (9, [.int ((nI (0)) + nI (1)), .ref q_7, .int (nI (1))])), (q_7, .inl (dA 3, 10, .inr (.inr (.inr (.inr (va_up (fun _ => none) 0 (some y9)))))))] := hD
    obtain rfl : nI (1) = r_6 := hQ.symm
    refine lv_pop hx hb dX2_init_2_50 rfl ?_
    refine lv_goto (tgt := 23) hx hb dX2_init_2_51 (by decide) ?_
    rw [show nI 0 + nI 1 = nI 1 from by decide, pfx_0 (g := g), pfx_up hy1] at hP hD
    refine z_loopC (σ := Nat × Nat) (fun z => 2 + cF z.1) (fun z => 7 + sF z.1) (fun z => n - z.1) (fun z H locs ls => va_P D vwCl [(jn, .inr (2, [.ref qn])), (r_2, .inr (13, [.int (nI (z.1)), .int (nI (z.1 - 1)), .int smc, .ref sl])), (qn, .inr (9, [.int (nI (z.1)), .ref z.2, .int (nI (z.1))])), (z.2, .inl (dA 3, capF z.1, .inr (.inr (.inr (.inr (pfx g z.1))))))] H ∧ va_D A [(jn, .inr (2, [.ref qn])), (r_2, .inr (13, [.int (nI (z.1)), .int (nI (z.1 - 1)), .int smc, .ref sl])), (qn, .inr (9, [.int (nI (z.1)), .ref z.2, .int (nI (z.1))])), (z.2, .inl (dA 3, capF z.1, .inr (.inr (.inr (.inr (pfx g z.1))))))] ∧ va_S A s.heap H locs ∧ lv_has ls 4 [(0, .ref jn), (2, .ref r_2)] ∧ 1 ≤ z.1 ∧ z.1 ≤ n) (1, q_7) (by first | exact Nat.le_of_ble_eq_true rfl | decide) (by first | exact Nat.le_of_ble_eq_true rfl | decide) ⟨hP.sub [0, 1, 2, 3] rfl, hD.sub [0, 1, 2, 3] (by decide) rfl, hS, (lv_sub (l' := [(0, .ref jn), (2, .ref r_2)]) hl [2, 1] rfl), Nat.le_refl 1, h1⟩ ?_
    intro z H locs ls ⟨hP, hD, hS, hl, hz1, hz2⟩ ih
    obtain ⟨hk1, hk2, hk3, hk4⟩ := cap_le z.1 (by omega)
    refine lv_aload_n hx hb dX2_init_2_23 rfl (lv_at hl 1 rfl) ?_
    refine z_cFi (hC.K.1 13 _ rfl).2 (As := []) (rest := []) ⟨hx, hb, hml, hown, hts⟩ (mJ9_hasNext l D dA ad H.size r_2 z.1 (nI (z.1 - 1)) sl smc sae n (by omega) (by omega)) (va_cwF 0 hts (lw_F q334 q338 q340 q68 q342) rfl rfl rfl (Cx.nI hC (List.mem_of_getElem? (i := 4) rfl)) (by decide +kernel) ⟨Nat.le_of_ble_eq_true rfl, Nat.le_of_ble_eq_true rfl⟩) hC hS (fun _ h => hA _ (Nat.le_trans hS.1 h)) ((hP.app (hZ.at hS)).sub (ws' := [(r_2, .inr (13, [.int (nI (z.1)), .int (nI (z.1 - 1)), .int smc, .ref sl])), (sl, .inr (9, [.int smc, .ref sae, .int (nI (n))]))]) [1, 5] rfl) (va_recv hK hP (ci := 13) (q0 := 1) rfl rfl) rfl rfl hl.1 (Nat.le_of_ble_eq_true rfl) dX2_init_2_24 ⟨by first | exact Nat.le_of_ble_eq_true rfl | (show _ ≤ _; simp only [headSpec]; omega), by first | exact Nat.le_of_ble_eq_true rfl | (show _ ≤ _; simp only [headSpec]; omega)⟩ (fun r_8 H locs hQ hF hS => ?_)
    have hP := va_P.ro hF hP
    obtain rfl : bI (z.1 ≠ n) = r_8 := hQ.symm
    refine lv_if_eq (tgt := 54) hx hb dX2_init_2_29 (by decide) (fun c_9 => ?_) (fun c_9 => ?_)
    · have c_9 := bI_0.1 c_9
      have e9 : z.1 = n := (by omega)
      rw [e9] at hP hD
      exact z_vret hx hb hr hS (⟨qn, z.2, trivial, hP.sub [0, 2, 3] rfl, hD.sub [0, 2, 3] (by decide) rfl⟩) (by omega) (by omega) dX2_init_2_54
    · have c_9 := bI_1.1 c_9
      refine lv_aload_n hx hb dX2_init_2_32 rfl (lv_at hl 1 rfl) ?_
      obtain ⟨y9, vs9, hy1, hy2, hy3⟩ := hP2 (z.1) (by omega)
      have hV9 : NtV D A y9 s.heap := ⟨vs9, hy2, hy3⟩
      have hDc := (hD.sub (ws' := [(r_2, .inr (13, [.int (nI (z.1)), .int (nI (z.1 - 1)), .int smc, .ref sl]))]) [1] (by decide) rfl).self (sz := H.size)
      have hFc := va_free (wc := [(r_2, .inr (13, [.int (nI (z.1)), .int (nI (z.1 - 1)), .int smc, .ref sl]))]) hD hS hA [1] rfl
      refine z_cFr (hC.K.1 13 _ rfl).2 (As := []) (rest := []) ⟨hx, hb, hml, hown, hts⟩ (mJ9_next l D dA ad (va_A [(r_2, .inr (13, [.int (nI (z.1)), .int (nI (z.1 - 1)), .int smc, .ref sl]))] H.size) H.size r_2 z.1 (nI (z.1 - 1)) sl smc sae n cap g y9 (fun _ h => Or.inr h) (by omega) (by omega) (by omega) (hy1) hDc) (va_cwF 0 hts (lw_F q344 q347 q349 q68 q351) rfl rfl rfl (Cx.nI hC (List.mem_of_getElem? (i := 5) rfl)) (by decide +kernel) ⟨Nat.le_of_ble_eq_true rfl, Nat.le_of_ble_eq_true rfl⟩) hC hS (hFc) ⟨(hP.sub (ws' := [(r_2, .inr (13, [.int (nI (z.1)), .int (nI (z.1 - 1)), .int smc, .ref sl]))]) [1] rfl), (zFz_mk ((hZ.at hS).sub (ws' := [(sl, .inr (9, [.int smc, .ref sae, .int (nI (n))])), (sae, .inl (dA 3, cap, .inr (.inr (.inr (.inr g)))))]) [1, 2] rfl) (fun k q hk => by match k, hk with | 0, hk => cases hk; exact (fun h9 => hZ.out (q0 := 1) rfl (hFc _ h9)) | 1, hk => cases hk; exact (fun h9 => hZ.out (q0 := 2) rfl (hFc _ h9)) | k + 2, hk => simp at hk))⟩ (va_recv hK hP (ci := 13) (q0 := 1) rfl rfl) rfl rfl hl.1 (Nat.le_of_ble_eq_true rfl) dX2_init_2_33 ⟨by first | exact Nat.le_of_ble_eq_true rfl | (show _ ≤ _; simp only [headSpec]; omega), by first | exact Nat.le_of_ble_eq_true rfl | (show _ ≤ _; simp only [headSpec]; omega)⟩ (fun r_10 H locs hQ hF hS => ?_)
      obtain ⟨hQ, hP1⟩ := hQ
      obtain ⟨hP, hD⟩ := va_join (wr := [(jn, .inr (2, [.ref qn])), (qn, .inr (9, [.int (nI (z.1)), .ref z.2, .int (nI (z.1))])), (z.2, .inl (dA 3, capF z.1, .inr (.inr (.inr (.inr (pfx g z.1))))))]) (w1 := [(r_2, .inr (13, [.int (nI (z.1 + 1)), .int (nI (z.1)), .int smc, .ref sl]))]) hP hD [1] [0, 2, 3] rfl rfl (by decide) (by decide) hF.2 hFc hP1 (hDc.same rfl)
      have hP := hP.sub (ws' := [(jn, .inr (2, [.ref qn])), (r_2, .inr (13, [.int (nI (z.1 + 1)), .int (nI (z.1)), .int smc, .ref sl])), (qn, .inr (9, [.int (nI (z.1)), .ref z.2, .int (nI (z.1))])), (z.2, .inl (dA 3, capF z.1, .inr (.inr (.inr (.inr (pfx g z.1))))))]) [0, 3, 1, 2] rfl
      have hD := hD.sub (ws' := [(jn, .inr (2, [.ref qn])), (r_2, .inr (13, [.int (nI (z.1 + 1)), .int (nI (z.1)), .int smc, .ref sl])), (qn, .inr (9, [.int (nI (z.1)), .ref z.2, .int (nI (z.1))])), (z.2, .inl (dA 3, capF z.1, .inr (.inr (.inr (.inr (pfx g z.1))))))]) [0, 3, 1, 2] (by decide) rfl
      obtain rfl : y9 = r_10 := hQ.symm
      refine va_castY hx hb hown (hts _ q356) (Cx.nC hC (t := ("FencedStandbys$Note", "FencedStandbys$Written")) (List.mem_of_getElem? (i := 17) rfl)) ((hV9.kept hS).recv hC) dX2_init_2_38 ?_
      refine lv_astore_n (lv' := [(3, .ref y9), (0, .ref jn), (2, .ref r_2)]) hx hb dX2_init_2_41 rfl hl (by decide) rfl (fun ls hl => ?_)
      refine lv_aload_n hx hb dX2_init_2_42 rfl (lv_at hl 1 rfl) ?_
      refine va_get (D := D) (ci := 2) (v := .ref qn) (C := RX2) (T := TX2) (N := 1) hx hb hts in_X2 hown hK hP 0 rfl rfl 0 (by decide) (hts _ q138) (fun _ h9 => h9) rfl dX2_init_2_43 ?_
      refine lv_aload_n hx hb dX2_init_2_46 rfl (lv_at hl 0 rfl) ?_
      obtain ⟨hj1, hj2, hj3, hj4⟩ := cap_le (z.1 + 1) (by omega)
      rcases cap_step z.1 (by omega) (by omega) with ⟨hc1, hc2, hc3, hc4⟩ | ⟨hc1, hc2, hc3, hc4⟩
      · have hDc := (hD.sub (ws' := [(qn, .inr (9, [.int (nI (z.1)), .ref z.2, .int (nI (z.1))])), (z.2, .inl (dA 3, capF z.1, .inr (.inr (.inr (.inr (pfx g z.1))))))]) [2, 3] (by decide) rfl).self (sz := H.size)
        have hFc := va_free (wc := [(qn, .inr (9, [.int (nI (z.1)), .ref z.2, .int (nI (z.1))])), (z.2, .inl (dA 3, capF z.1, .inr (.inr (.inr (.inr (pfx g z.1))))))]) hD hS hA [2, 3] rfl
        refine z_cVi (As := [.ref y9]) (rest := []) ⟨hx, hb, hml, hown, hts⟩ (mJ2_addB l D dA ad (va_A [(qn, .inr (9, [.int (nI (z.1)), .ref z.2, .int (nI (z.1))])), (z.2, .inl (dA 3, capF z.1, .inr (.inr (.inr (.inr (pfx g z.1))))))] H.size) H.size qn (nI (z.1)) z.2 z.1 (capF z.1) (pfx g z.1) y9 (fun _ h => Or.inr h) (by omega) (by omega) hDc) (cwV 1 hts (lw_V q357 q358 q359 q59 q360) rfl rfl rfl (by decide +kernel) ⟨Nat.le_of_ble_eq_true rfl, Nat.le_of_ble_eq_true rfl⟩) hC hS (hFc) ⟨(hP.sub (ws' := [(qn, .inr (9, [.int (nI (z.1)), .ref z.2, .int (nI (z.1))])), (z.2, .inl (dA 3, capF z.1, .inr (.inr (.inr (.inr (pfx g z.1))))))]) [2, 3] rfl), (hV9.kept hS).narrow hFc⟩ (va_recv hK hP (ci := 9) (q0 := 2) rfl rfl) rfl rfl hl.1 (Nat.le_of_ble_eq_true rfl) dX2_init_2_47 ⟨by first | exact Nat.le_of_ble_eq_true rfl | (show _ ≤ _; simp only [headSpec]; omega), by first | exact Nat.le_of_ble_eq_true rfl | (show _ ≤ _; simp only [headSpec]; omega)⟩ (fun r_11 H locs hQ hF hS => ?_)
        obtain ⟨hQ, hP1⟩ := hQ
        obtain ⟨hP, hD⟩ := va_join (wr := [(jn, .inr (2, [.ref qn])), (r_2, .inr (13, [.int (nI (z.1 + 1)), .int (nI (z.1)), .int smc, .ref sl]))]) (w1 := [(qn, .inr (9, [.int ((nI (z.1)) + nI (1)), .ref z.2, .int (nI (z.1 + 1))])), (z.2, .inl (dA 3, (capF z.1), .inr (.inr (.inr (.inr (va_up (pfx g z.1) z.1 (some y9)))))))]) hP hD [2, 3] [0, 1] rfl rfl (by decide) (by decide) hF.2 hFc hP1 (hDc.same rfl)
        have hP := hP.sub (ws' := [(jn, .inr (2, [.ref qn])), (r_2, .inr (13, [.int (nI (z.1 + 1)), .int (nI (z.1)), .int smc, .ref sl])), (qn, .inr (9, [.int ((nI (z.1)) + nI (1)), .ref z.2, .int (nI (z.1 + 1))])), (z.2, .inl (dA 3, (capF z.1), .inr (.inr (.inr (.inr (va_up (pfx g z.1) z.1 (some y9)))))))]) [0, 1, 2, 3] rfl
        have hD := hD.sub (ws' := [(jn, .inr (2, [.ref qn])), (r_2, .inr (13, [.int (nI (z.1 + 1)), .int (nI (z.1)), .int smc, .ref sl])), (qn, .inr (9, [.int ((nI (z.1)) + nI (1)), .ref z.2, .int (nI (z.1 + 1))])), (z.2, .inl (dA 3, (capF z.1), .inr (.inr (.inr (.inr (va_up (pfx g z.1) z.1 (some y9)))))))]) [0, 1, 2, 3] (by decide) rfl
        obtain rfl : nI (1) = r_11 := hQ.symm
        refine lv_pop hx hb dX2_init_2_50 rfl ?_
        refine lv_goto (tgt := 23) hx hb dX2_init_2_51 (by decide) ?_
        rw [pfx_up hy1, nI_add, ← hc2] at hP hD
        exact ih (z.1 + 1, z.2) H locs ls _ _ ⟨hP.sub [0, 1, 2, 3] rfl, hD.sub [0, 1, 2, 3] (by decide) rfl, hS, (lv_sub (l' := [(0, .ref jn), (2, .ref r_2)]) hl [1, 2] rfl), by show 1 ≤ z.1 + 1; omega, by show z.1 + 1 ≤ n; omega⟩ (by show n - (z.1 + 1) < n - z.1; omega) (by show _ ≤ 2 + cF (z.1 + 1); omega) (by show _ ≤ 7 + sF (z.1 + 1); omega)
      · rw [← hc1] at hP hD
        have hDc := (hD.sub (ws' := [(qn, .inr (9, [.int (nI (z.1)), .ref z.2, .int (nI (z.1))])), (z.2, .inl (dA 3, z.1, .inr (.inr (.inr (.inr (pfx g z.1))))))]) [2, 3] (by decide) rfl).self (sz := H.size)
        have hFc := va_free (wc := [(qn, .inr (9, [.int (nI (z.1)), .ref z.2, .int (nI (z.1))])), (z.2, .inl (dA 3, z.1, .inr (.inr (.inr (.inr (pfx g z.1))))))]) hD hS hA [2, 3] rfl
        refine z_cVi (As := [.ref y9]) (rest := []) ⟨hx, hb, hml, hown, hts⟩ (mJ2_addC l D dA ad (va_A [(qn, .inr (9, [.int (nI (z.1)), .ref z.2, .int (nI (z.1))])), (z.2, .inl (dA 3, z.1, .inr (.inr (.inr (.inr (pfx g z.1))))))] H.size) H.size qn (nI (z.1)) z.2 z.1 (pfx g z.1) y9 (fun _ h => Or.inr h) (by omega) (by omega) hDc) (cwV 1 hts (lw_V q357 q358 q359 q59 q360) rfl rfl rfl (by decide +kernel) ⟨Nat.le_of_ble_eq_true rfl, Nat.le_of_ble_eq_true rfl⟩) hC hS (hFc) ⟨(hP.sub (ws' := [(qn, .inr (9, [.int (nI (z.1)), .ref z.2, .int (nI (z.1))])), (z.2, .inl (dA 3, z.1, .inr (.inr (.inr (.inr (pfx g z.1))))))]) [2, 3] rfl), ⟨((hP2.pfx hz2).kept hS).narrow hFc, (hV9.kept hS).narrow hFc⟩⟩ (va_recv hK hP (ci := 9) (q0 := 2) rfl rfl) rfl rfl hl.1 (Nat.le_of_ble_eq_true rfl) dX2_init_2_47 ⟨by first | exact Nat.le_of_ble_eq_true rfl | (show _ ≤ _; simp only [headSpec]; omega), by first | exact Nat.le_of_ble_eq_true rfl | (show _ ≤ _; simp only [headSpec]; omega)⟩ (fun r_12 H locs hQ hF hS => ?_)
        obtain ⟨q_13, hQ, hP1, hD1⟩ := hQ
        obtain ⟨hP, hD⟩ := va_join (wr := [(jn, .inr (2, [.ref qn])), (r_2, .inr (13, [.int (nI (z.1 + 1)), .int (nI (z.1)), .int smc, .ref sl]))]) (w1 := [(qn, .inr (9, [.int ((nI (z.1)) + nI (1)), .ref q_13, .int (nI (z.1 + 1))])), (q_13, .inl (dA 3, (capG z.1), .inr (.inr (.inr (.inr (va_up (va_cpy (pfx g z.1) (fun _ => none) 0 0 z.1) z.1 (some y9)))))))]) hP hD [2, 3] [0, 1] rfl rfl (by decide) (by decide) hF.2 hFc hP1 hD1
        have hP : va_P D vwCl [(jn, .inr (2, [.ref qn])), (r_2, .inr (13, [.int (nI (z.1 + 1)), .int (nI (z.1)), .int smc, .ref sl])), (qn, .inr (9, [.int ((nI (z.1)) + nI (1)), .ref q_13, .int (nI (z.1 + 1))])), (q_13, .inl (dA 3, (capG z.1), .inr (.inr (.inr (.inr (va_up (va_cpy (pfx g z.1) (fun _ => none) 0 0 z.1) z.1 (some y9)))))))] H := hP
        have hD : va_D A [(jn, .inr (2, [.ref qn])), (r_2, .inr (13, [.int (nI (z.1 + 1)), .int (nI (z.1)), .int smc, .ref sl])), (qn, .inr (9, [.int ((nI (z.1)) + nI (1)), .ref q_13, .int (nI (z.1 + 1))])), (q_13, .inl (dA 3, (capG z.1), .inr (.inr (.inr (.inr (va_up (va_cpy (pfx g z.1) (fun _ => none) 0 0 z.1) z.1 (some y9)))))))] := hD
        obtain rfl : nI (1) = r_12 := hQ.symm
        refine lv_pop hx hb dX2_init_2_50 rfl ?_
        refine lv_goto (tgt := 23) hx hb dX2_init_2_51 (by decide) ?_
        rw [pfx_cpy, pfx_up hy1, nI_add, ← hc2] at hP hD
        exact ih (z.1 + 1, q_13) H locs ls _ _ ⟨hP.sub [0, 1, 2, 3] rfl, hD.sub [0, 1, 2, 3] (by decide) rfl, hS, (lv_sub (l' := [(0, .ref jn), (2, .ref r_2)]) hl [1, 2] rfl), by show 1 ≤ z.1 + 1; omega, by show z.1 + 1 ≤ n; omega⟩ (by show n - (z.1 + 1) < n - z.1; omega) (by show _ ≤ 2 + cF (z.1 + 1); omega) (by show _ ≤ 7 + sF (z.1 + 1); omega)
