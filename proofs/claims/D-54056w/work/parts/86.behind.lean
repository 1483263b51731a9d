set_option maxHeartbeats 4000000 in
set_option maxRecDepth 100000 in
theorem mX0_behind0 (l : Launch) (D : va_G) (dA : Nat → ClassId) (ad : Nat → Nat) (sz : Nat) (xx : Nat) (st : Nat) (dq : Nat) (sb : Nat) (f : Nat → Int32) (M : Nat) (jo : Nat) (slo : Nat) (sao : Nat) (seo : Nat) (alo : Nat) (mco : Int32) (aeo : Nat) (h : Nat → Option Nat) (t0 : Nat) (c0 : Nat) (d0 : Nat) (e0 : Int32) (W0 : Nat) (t1 : Nat) (c1 : Nat) (d1 : Nat) (e1 : Int32) (W1 : Nat) (kw : Nat) (hB : InvB f M) (h5 : 5 ≤ kw) (h8 : kw ≤ 8) : Met l yX0_behind (ws_ yX0_behind cX0_behind 3 (some .int)) ({ frames := 9, cells := 0, slots := 0, locals := 280 }) (va_Pc [.ref xx, .ref t0, .int (nI (kw))] (zP D dA ad (fun q => sz ≤ q) sz (fun H => va_P D vwCl [(xx, .inr (0, [.ref st, .ref dq, .ref sb])), (st, .inr (1, [.ref jo, .ref slo, .ref sao, .ref seo, .int (f 1), .int (f 2), .int (f 3), .int (f 4), .int (f 5), .int (f 6)])), (jo, .inr (2, [.ref alo])), (alo, .inr (9, [.int mco, .ref aeo, .int (nI (rN f))])), (slo, .inl (dA 0, 3, .inl (slF f))), (sao, .inl (dA 4, 2, .inr (.inr (.inr (.inr h))))), (seo, .inl (dA 0, 2, .inl (seF f))), (t0, .inr (3, [.int (nI (rcN f 0)), .int (nI (apN f 0)), .ref c0, .int (nI (acN f 0))])), (c0, .inr (10, [.ref d0, .int (nI (uOf W0)), .int e0])), (d0, .inl (dA 1, 2, .inr (.inl (lwd W0)))), (t1, .inr (3, [.int (nI (rcN f 1)), .int (nI (apN f 1)), .ref c1, .int (nI (acN f 1))])), (c1, .inr (10, [.ref d1, .int (nI (uOf W1)), .int e1])), (d1, .inl (dA 1, 2, .inr (.inl (lwd W1))))] H ∧ LogRA D dA (fun q => sz ≤ q) f aeo (rN f) H))) (zQi (fun rz H => rz = aStb f 0 kw) (fun q => sz ≤ q)) (0) (0) (fun q => sz ≤ q) := by
  refine Met.ofW (cc := cX0_behind) (maxL := 3) (ret := (some .int)) (by decide) rfl ?_
  intro p e s m args below meth c s₁ B hml hv
  obtain ⟨rfl, hsz, hC, hP⟩ := hv
  have hx := B.exec
  have hb := B.bytes
  have hr := B.returns
  have hts := atoms_spec (ws := ws_ yX0_behind cX0_behind 3 (some .int)) B.pre
  have hts : ∀ w ∈ lw_all, w.before _ s = true := fun w h => hts w (List.mem_cons_of_mem _ h)
  have hown : s.vm.findClass RX0 = some m.cls := findClass_of_methodNamed B.named
  have hlocks := B.notSynchronized
  subst hsz
  have hK := hC.K
  have hA : ∀ q : Nat, s.heap.size ≤ q → s.heap.size ≤ q := fun _ h => h
  have hS : va_S (fun q => s.heap.size ≤ q) s.heap s.heap [] := va_S.rf
  obtain ⟨hP, hP2⟩ := hP
  have hP : va_P D vwCl [(xx, .inr (0, [.ref st, .ref dq, .ref sb])), (st, .inr (1, [.ref jo, .ref slo, .ref sao, .ref seo, .int (f 1), .int (f 2), .int (f 3), .int (f 4), .int (f 5), .int (f 6)])), (jo, .inr (2, [.ref alo])), (alo, .inr (9, [.int mco, .ref aeo, .int (nI (rN f))])), (slo, .inl (dA 0, 3, .inl (slF f))), (sao, .inl (dA 4, 2, .inr (.inr (.inr (.inr h))))), (seo, .inl (dA 0, 2, .inl (seF f))), (t0, .inr (3, [.int (nI (rcN f 0)), .int (nI (apN f 0)), .ref c0, .int (nI (acN f 0))])), (c0, .inr (10, [.ref d0, .int (nI (uOf W0)), .int e0])), (d0, .inl (dA 1, 2, .inr (.inl (lwd W0)))), (t1, .inr (3, [.int (nI (rcN f 1)), .int (nI (apN f 1)), .ref c1, .int (nI (acN f 1))])), (c1, .inr (10, [.ref d1, .int (nI (uOf W1)), .int e1])), (d1, .inl (dA 1, 2, .inr (.inl (lwd W1))))] s.heap := hP
  have hI := hB.a
  have hn9 := hI.2.1
  obtain ⟨qa0, qb0, qc0, qd0⟩ := InvA_ap hI (b := 0) (by omega)
  obtain ⟨qa1, qb1, qc1, qd1⟩ := InvA_ap hI (b := 1) (by omega)
  obtain ⟨hac0, ha0⟩ := hB.ac (b := 0) (by omega)
  obtain ⟨hac1, ha1⟩ := hB.ac (b := 1) (by omega)
  have hl := lv_entry ([.ref xx, .ref t0, .int (nI (kw))]) (n := 3) (Nat.le_of_ble_eq_true rfl)
  rw [lg_entry_eq]
  generalize (lg_sl ([.ref xx, .ref t0, .int (nI (kw))]) ++ List.replicate (3 - (lg_sl ([.ref xx, .ref t0, .int (nI (kw))])).length) Slot.unset).toArray = ls at hl ⊢
  have hl : lv_has ls 3 [(0, .ref xx), (1, .ref t0), (2, .int (nI (kw)))] := hl
  refine lv_iload_n hx hb dX0_behind_0 rfl (lv_at hl 2 rfl) ?_
  rcases (show kw = 5 ∨ kw = 6 ∨ kw = 7 ∨ kw = 8 by omega) with rfl | rfl | rfl | rfl
  · refine lv_tableIn (off := 27) (tgt := 28) hx hb dX0_behind_1 (by decide) (by decide) (by decide) (by decide) ?_
    refine lv_aload_n hx hb dX0_behind_28 rfl (lv_at hl 0 rfl) ?_
    refine va_get (D := D) (ci := 0) (v := .ref st) (C := RX0) (T := TX0) (N := 3) hx hb hts in_X0 hown hK hP 0 rfl rfl 0 (by decide) (hts _ q284) (fun _ h9 => h9) rfl dX0_behind_29 ?_
    refine va_getN (D := D) (ci := 1) (v := .ref jo) (C := RX1) (T := TX1) (N := 10) hx hb hts in_X1 hown hK hP 1 rfl rfl 0 (by decide) (Cx.nF hC (List.mem_of_getElem? (i := 5) rfl)) (fun _ h9 => h9) rfl dX0_behind_32 ?_
    refine z_cVi (As := []) (rest := []) ⟨hx, hb, hml, hown, hts⟩ (mX2_size l D dA ad s.heap.size jo alo mco aeo (rN f)) (cwV 0 hts (lw_V q926 q637 q638 q56 q639) rfl rfl rfl (by decide +kernel) ⟨Nat.le_of_ble_eq_true rfl, Nat.le_of_ble_eq_true rfl⟩) hC hS (fun _ h => hA _ (Nat.le_trans hS.1 h)) (hP.sub (ws' := [(jo, .inr (2, [.ref alo])), (alo, .inr (9, [.int mco, .ref aeo, .int (nI (rN f))]))]) [2, 3] rfl) (va_recv hK hP (ci := 2) (q0 := 2) rfl rfl) rfl rfl hl.1 (Nat.le_of_ble_eq_true rfl) dX0_behind_35 ⟨Nat.le_of_ble_eq_true rfl, Nat.le_of_ble_eq_true rfl⟩ (fun r_1 H locs hQ hF hS => ?_)
    have hP := va_P.ro hF hP
    obtain rfl : nI ((rN f)) = r_1 := hQ.symm
    refine lv_aload_n hx hb dX0_behind_38 rfl (lv_at hl 1 rfl) ?_
    refine va_getN (D := D) (ci := 3) (v := .int (nI (apN f 0))) (C := RX3) (T := TX3) (N := 4) hx hb hts in_X3 hown hK hP 7 rfl rfl 1 (by decide) (Cx.nF hC (List.mem_of_getElem? (i := 2) rfl)) (fun _ h9 => h9) rfl dX0_behind_39 ?_
    refine lv_isub hx hb dX0_behind_42 ?_
    refine lv_tope (y := nI ((rN f) - (apN f 0))) (pk_sub (by omega)) ?_
    exact z_iret (v := nI ((rN f) - (apN f 0))) hx hb hr hS (rfl) (by omega) (by omega) dX0_behind_43
  · refine lv_tableIn (off := 43) (tgt := 44) hx hb dX0_behind_1 (by decide) (by decide) (by decide) (by decide) ?_
    refine lv_aload_n hx hb dX0_behind_44 rfl (lv_at hl 0 rfl) ?_
    refine va_get (D := D) (ci := 0) (v := .ref st) (C := RX0) (T := TX0) (N := 3) hx hb hts in_X0 hown hK hP 0 rfl rfl 0 (by decide) (hts _ q284) (fun _ h9 => h9) rfl dX0_behind_45 ?_
    refine lv_aload_n hx hb dX0_behind_48 rfl (lv_at hl 1 rfl) ?_
    refine va_getN (D := D) (ci := 3) (v := .int (nI (apN f 0))) (C := RX3) (T := TX3) (N := 4) hx hb hts in_X3 hown hK hP 7 rfl rfl 1 (by decide) (Cx.nF hC (List.mem_of_getElem? (i := 2) rfl)) (fun _ h9 => h9) rfl dX0_behind_49 ?_
    refine z_cVi (As := [.int (nI (apN f 0))]) (rest := []) ⟨hx, hb, hml, hown, hts⟩ (mX1_commitsBehind l D dA ad s.heap.size st jo slo sao seo (f 1) (f 2) (f 3) (f 4) (f 5) (f 6) alo mco aeo (rN f) f (apN f 0) (by omega)) (cwV 1 hts (lw_V q1002 q728 q729 q55 q730) rfl rfl rfl (by decide +kernel) ⟨Nat.le_of_ble_eq_true rfl, Nat.le_of_ble_eq_true rfl⟩) hC hS (fun _ h => hA _ (Nat.le_trans hS.1 h)) ⟨(hP.sub (ws' := [(st, .inr (1, [.ref jo, .ref slo, .ref sao, .ref seo, .int (f 1), .int (f 2), .int (f 3), .int (f 4), .int (f 5), .int (f 6)])), (jo, .inr (2, [.ref alo])), (alo, .inr (9, [.int mco, .ref aeo, .int (nI (rN f))]))]) [1, 2, 3] rfl), (hP2.kept hS).ro⟩ (va_recv hK hP (ci := 1) (q0 := 1) rfl rfl) rfl rfl hl.1 (Nat.le_of_ble_eq_true rfl) dX0_behind_52 ⟨Nat.le_of_ble_eq_true rfl, Nat.le_of_ble_eq_true rfl⟩ (fun r_2 H locs hQ hF hS => ?_)
    have hP := va_P.ro hF hP
    obtain rfl : nI (commits f ((apN f 0) + 1) ((rN f) - (apN f 0))) = r_2 := hQ.symm
    exact z_iret (v := nI (commits f ((apN f 0) + 1) ((rN f) - (apN f 0)))) hx hb hr hS (rfl) (by omega) (by omega) dX0_behind_55
  · refine lv_tableIn (off := 55) (tgt := 56) hx hb dX0_behind_1 (by decide) (by decide) (by decide) (by decide) ?_
    refine lv_aload_n hx hb dX0_behind_56 rfl (lv_at hl 1 rfl) ?_
    refine va_getN (D := D) (ci := 3) (v := .int (nI (apN f 0))) (C := RX3) (T := TX3) (N := 4) hx hb hts in_X3 hown hK hP 7 rfl rfl 1 (by decide) (Cx.nF hC (List.mem_of_getElem? (i := 2) rfl)) (fun _ h9 => h9) rfl dX0_behind_57 ?_
    refine lv_aload_n hx hb dX0_behind_60 rfl (lv_at hl 0 rfl) ?_
    refine va_get (D := D) (ci := 0) (v := .ref st) (C := RX0) (T := TX0) (N := 3) hx hb hts in_X0 hown hK hP 0 rfl rfl 0 (by decide) (hts _ q284) (fun _ h9 => h9) rfl dX0_behind_61 ?_
    refine va_getN (D := D) (ci := 1) (v := .ref jo) (C := RX1) (T := TX1) (N := 10) hx hb hts in_X1 hown hK hP 1 rfl rfl 0 (by decide) (Cx.nF hC (List.mem_of_getElem? (i := 5) rfl)) (fun _ h9 => h9) rfl dX0_behind_64 ?_
    refine z_cVi (As := []) (rest := [.int (nI (apN f 0))]) ⟨hx, hb, hml, hown, hts⟩ (mX2_size l D dA ad s.heap.size jo alo mco aeo (rN f)) (cwV 0 hts (lw_V q926 q637 q638 q56 q639) rfl rfl rfl (by decide +kernel) ⟨Nat.le_of_ble_eq_true rfl, Nat.le_of_ble_eq_true rfl⟩) hC hS (fun _ h => hA _ (Nat.le_trans hS.1 h)) (hP.sub (ws' := [(jo, .inr (2, [.ref alo])), (alo, .inr (9, [.int mco, .ref aeo, .int (nI (rN f))]))]) [2, 3] rfl) (va_recv hK hP (ci := 2) (q0 := 2) rfl rfl) rfl rfl hl.1 (Nat.le_of_ble_eq_true rfl) dX0_behind_67 ⟨Nat.le_of_ble_eq_true rfl, Nat.le_of_ble_eq_true rfl⟩ (fun r_3 H locs hQ hF hS => ?_)
    have hP := va_P.ro hF hP
    obtain rfl : nI ((rN f)) = r_3 := hQ.symm
    refine lv_icmp_ne (tgt := 78) hx hb dX0_behind_70 (by decide) (fun c_4 => ?_) (fun c_4 => ?_)
    · have c_4 := mt (nI_eq (by omega) (by omega)).2 c_4
      refine lv_aload_n hx hb dX0_behind_78 rfl (lv_at hl 0 rfl) ?_
      refine va_get (D := D) (ci := 0) (v := .ref st) (C := RX0) (T := TX0) (N := 3) hx hb hts in_X0 hown hK hP 0 rfl rfl 0 (by decide) (hts _ q284) (fun _ h9 => h9) rfl dX0_behind_79 ?_
      refine va_getN (D := D) (ci := 1) (v := .int (f 1)) (C := RX1) (T := TX1) (N := 10) hx hb hts in_X1 hown hK hP 1 rfl rfl 4 (by decide) (Cx.nF hC (List.mem_of_getElem? (i := 9) rfl)) (fun _ h9 => h9) rfl dX0_behind_82 ?_
      refine lv_aload_n hx hb dX0_behind_85 rfl (lv_at hl 0 rfl) ?_
      refine va_get (D := D) (ci := 0) (v := .ref st) (C := RX0) (T := TX0) (N := 3) hx hb hts in_X0 hown hK hP 0 rfl rfl 0 (by decide) (hts _ q284) (fun _ h9 => h9) rfl dX0_behind_86 ?_
      refine va_getN (D := D) (ci := 1) (v := .ref jo) (C := RX1) (T := TX1) (N := 10) hx hb hts in_X1 hown hK hP 1 rfl rfl 0 (by decide) (Cx.nF hC (List.mem_of_getElem? (i := 5) rfl)) (fun _ h9 => h9) rfl dX0_behind_89 ?_
      refine lv_aload_n hx hb dX0_behind_92 rfl (lv_at hl 1 rfl) ?_
      refine va_getN (D := D) (ci := 3) (v := .int (nI (apN f 0))) (C := RX3) (T := TX3) (N := 4) hx hb hts in_X3 hown hK hP 7 rfl rfl 1 (by decide) (Cx.nF hC (List.mem_of_getElem? (i := 2) rfl)) (fun _ h9 => h9) rfl dX0_behind_93 ?_
      refine lv_iconst (v := nI (1)) hx hb dX0_behind_96 (by decide) ?_
      refine lv_iadd hx hb dX0_behind_97 ?_
      refine lv_tope (y := nI ((apN f 0) + 1)) (nI_add _ _) ?_
      obtain ⟨y9, cap9, g9, hc9, hd9, hE9, hy9, hN9, hV9⟩ := (hP2.kept hS).ro.at (r := apN f 0 + 1) (by omega) (by omega)
      have hP := (hP.app (va_P1 hE9)).app (va_P1 hN9)
      have hP : va_P D vwCl [(xx, .inr (0, [.ref st, .ref dq, .ref sb])), (st, .inr (1, [.ref jo, .ref slo, .ref sao, .ref seo, .int (f 1), .int (f 2), .int (f 3), .int (f 4), .int (f 5), .int (f 6)])), (jo, .inr (2, [.ref alo])), (alo, .inr (9, [.int mco, .ref aeo, .int (nI (rN f))])), (slo, .inl (dA 0, 3, .inl (slF f))), (sao, .inl (dA 4, 2, .inr (.inr (.inr (.inr h))))), (seo, .inl (dA 0, 2, .inl (seF f))), (t0, .inr (3, [.int (nI (rcN f 0)), .int (nI (apN f 0)), .ref c0, .int (nI (acN f 0))])), (c0, .inr (10, [.ref d0, .int (nI (uOf W0)), .int e0])), (d0, .inl (dA 1, 2, .inr (.inl (lwd W0)))), (t1, .inr (3, [.int (nI (rcN f 1)), .int (nI (apN f 1)), .ref c1, .int (nI (acN f 1))])), (c1, .inr (10, [.ref d1, .int (nI (uOf W1)), .int e1])), (d1, .inl (dA 1, 2, .inr (.inl (lwd W1)))), (aeo, .inl (dA 3, cap9, .inr (.inr (.inr (.inr g9))))), (y9, .inr (6, [.int (rcf f (apN f 0 + 1) 0), .int (rcf f (apN f 0 + 1) 1), .int (nfF f (apN f 0 + 1) 2), .int (nfF f (apN f 0 + 1) 3), .int (rcf f (apN f 0 + 1) 4)]))] H := hP
      refine z_cVr (As := [.int (nI ((apN f 0) + 1))]) (rest := [.int (f 1)]) ⟨hx, hb, hml, hown, hts⟩ (mX2_at l D dA ad H.size jo alo mco aeo (rN f) cap9 g9 ((apN f 0) + 1) y9 (by omega) (by omega) (hc9) (by omega) (hy9)) (cwV 1 hts (lw_V q973 q732 q733 q56 q734) rfl rfl rfl (by decide +kernel) ⟨Nat.le_of_ble_eq_true rfl, Nat.le_of_ble_eq_true rfl⟩) hC hS (fun _ h => hA _ (Nat.le_trans hS.1 h)) ⟨(hP.sub (ws' := [(jo, .inr (2, [.ref alo])), (alo, .inr (9, [.int mco, .ref aeo, .int (nI (rN f))])), (aeo, .inl (dA 3, cap9, .inr (.inr (.inr (.inr g9)))))]) [2, 3, 13] rfl), hV9⟩ (va_recv hK hP (ci := 2) (q0 := 2) rfl rfl) rfl rfl hl.1 (Nat.le_of_ble_eq_true rfl) dX0_behind_98 ⟨Nat.le_of_ble_eq_true rfl, Nat.le_of_ble_eq_true rfl⟩ (fun r_5 H locs hQ hF hS => ?_)
      have hP := va_P.ro hF hP
      obtain rfl : y9 = r_5 := hQ.symm
      refine va_castE hx hb hown (hts _ q974) (va_recv hK hP (ci := 6) (q0 := 14) rfl rfl) dX0_behind_101 ?_
      refine va_getN (D := D) (ci := 6) (v := .int (rcf f (apN f 0 + 1) 4)) (C := RX6) (T := TX6) (N := 5) hx hb hts in_X6 hown hK hP 14 rfl rfl 4 (by decide) (Cx.nF hC (List.mem_of_getElem? (i := 16) rfl)) (fun _ h9 => h9) rfl dX0_behind_104 ?_
      refine lv_isub hx hb dX0_behind_107 ?_
      exact z_iret (v := (f 1) - (rcf f (apN f 0 + 1) 4)) hx hb hr hS ((if_neg c_4).symm) (by omega) (by omega) dX0_behind_108
    · have c_4 := (nI_eq (by omega) (by omega)).1 c_4
      refine lv_ldc (v := (-1000004)) hx hb hown (hts _ q962) dX0_behind_73 ?_
      refine lv_goto (tgt := 108) hx hb dX0_behind_75 (by decide) ?_
      exact z_iret (v := (-1000004)) hx hb hr hS ((if_pos c_4).symm) (by omega) (by omega) dX0_behind_108
  · refine lv_tableOut (tgt := 109) hx hb dX0_behind_1 (by decide) (by decide) ?_
    refine lv_aload_n hx hb dX0_behind_109 rfl (lv_at hl 0 rfl) ?_
    refine va_get (D := D) (ci := 0) (v := .ref st) (C := RX0) (T := TX0) (N := 3) hx hb hts in_X0 hown hK hP 0 rfl rfl 0 (by decide) (hts _ q284) (fun _ h9 => h9) rfl dX0_behind_110 ?_
    refine lv_aload_n hx hb dX0_behind_113 rfl (lv_at hl 1 rfl) ?_
    refine va_getN (D := D) (ci := 3) (v := .int (nI (apN f 0))) (C := RX3) (T := TX3) (N := 4) hx hb hts in_X3 hown hK hP 7 rfl rfl 1 (by decide) (Cx.nF hC (List.mem_of_getElem? (i := 2) rfl)) (fun _ h9 => h9) rfl dX0_behind_114 ?_
    refine z_cVi (As := [.int (nI (apN f 0))]) (rest := []) ⟨hx, hb, hml, hown, hts⟩ (mX1_unlikeKeys l D dA ad s.heap.size st jo slo sao seo (f 1) (f 2) (f 3) (f 4) (f 5) (f 6) alo mco aeo (rN f) f (apN f 0) (by omega)) (cwV 1 hts (lw_V q1003 q1004 q1005 q55 q1006) rfl rfl rfl (by decide +kernel) ⟨Nat.le_of_ble_eq_true rfl, Nat.le_of_ble_eq_true rfl⟩) hC hS (fun _ h => hA _ (Nat.le_trans hS.1 h)) ⟨(hP.sub (ws' := [(st, .inr (1, [.ref jo, .ref slo, .ref sao, .ref seo, .int (f 1), .int (f 2), .int (f 3), .int (f 4), .int (f 5), .int (f 6)])), (jo, .inr (2, [.ref alo])), (alo, .inr (9, [.int mco, .ref aeo, .int (nI (rN f))]))]) [1, 2, 3] rfl), (hP2.kept hS).ro⟩ (va_recv hK hP (ci := 1) (q0 := 1) rfl rfl) rfl rfl hl.1 (Nat.le_of_ble_eq_true rfl) dX0_behind_117 ⟨Nat.le_of_ble_eq_true rfl, Nat.le_of_ble_eq_true rfl⟩ (fun r_6 H locs hQ hF hS => ?_)
    have hP := va_P.ro hF hP
    obtain rfl : nI (unC f (apN f 0) (rN f) 24) = r_6 := hQ.symm
    exact z_iret (v := nI (unC f (apN f 0) (rN f) 24)) hx hb hr hS (congrArg nI (unC_eq hB (by omega) 24)) (by omega) (by omega) dX0_behind_120

set_option maxHeartbeats 4000000 in
set_option maxRecDepth 100000 in
theorem mX0_behind1 (l : Launch) (D : va_G) (dA : Nat → ClassId) (ad : Nat → Nat) (sz : Nat) (xx : Nat) (st : Nat) (dq : Nat) (sb : Nat) (f : Nat → Int32) (M : Nat) (jo : Nat) (slo : Nat) (sao : Nat) (seo : Nat) (alo : Nat) (mco : Int32) (aeo : Nat) (h : Nat → Option Nat) (t0 : Nat) (c0 : Nat) (d0 : Nat) (e0 : Int32) (W0 : Nat) (t1 : Nat) (c1 : Nat) (d1 : Nat) (e1 : Int32) (W1 : Nat) (kw : Nat) (hB : InvB f M) (h5 : 5 ≤ kw) (h8 : kw ≤ 8) : Met l yX0_behind (ws_ yX0_behind cX0_behind 3 (some .int)) ({ frames := 9, cells := 0, slots := 0, locals := 280 }) (va_Pc [.ref xx, .ref t1, .int (nI (kw))] (zP D dA ad (fun q => sz ≤ q) sz (fun H => va_P D vwCl [(xx, .inr (0, [.ref st, .ref dq, .ref sb])), (st, .inr (1, [.ref jo, .ref slo, .ref sao, .ref seo, .int (f 1), .int (f 2), .int (f 3), .int (f 4), .int (f 5), .int (f 6)])), (jo, .inr (2, [.ref alo])), (alo, .inr (9, [.int mco, .ref aeo, .int (nI (rN f))])), (slo, .inl (dA 0, 3, .inl (slF f))), (sao, .inl (dA 4, 2, .inr (.inr (.inr (.inr h))))), (seo, .inl (dA 0, 2, .inl (seF f))), (t0, .inr (3, [.int (nI (rcN f 0)), .int (nI (apN f 0)), .ref c0, .int (nI (acN f 0))])), (c0, .inr (10, [.ref d0, .int (nI (uOf W0)), .int e0])), (d0, .inl (dA 1, 2, .inr (.inl (lwd W0)))), (t1, .inr (3, [.int (nI (rcN f 1)), .int (nI (apN f 1)), .ref c1, .int (nI (acN f 1))])), (c1, .inr (10, [.ref d1, .int (nI (uOf W1)), .int e1])), (d1, .inl (dA 1, 2, .inr (.inl (lwd W1))))] H ∧ LogRA D dA (fun q => sz ≤ q) f aeo (rN f) H))) (zQi (fun rz H => rz = aStb f 1 kw) (fun q => sz ≤ q)) (0) (0) (fun q => sz ≤ q) := by
  refine Met.ofW (cc := cX0_behind) (maxL := 3) (ret := (some .int)) (by decide) rfl ?_
  intro p e s m args below meth c s₁ B hml hv
  obtain ⟨rfl, hsz, hC, hP⟩ := hv
  have hx := B.exec
  have hb := B.bytes
  have hr := B.returns
  have hts := atoms_spec (ws := ws_ yX0_behind cX0_behind 3 (some .int)) B.pre
  have hts : ∀ w ∈ lw_all, w.before _ s = true := fun w h => hts w (List.mem_cons_of_mem _ h)
  have hown : s.vm.findClass RX0 = some m.cls := findClass_of_methodNamed B.named
  have hlocks := B.notSynchronized
  subst hsz
  have hK := hC.K
  have hA : ∀ q : Nat, s.heap.size ≤ q → s.heap.size ≤ q := fun _ h => h
  have hS : va_S (fun q => s.heap.size ≤ q) s.heap s.heap [] := va_S.rf
  obtain ⟨hP, hP2⟩ := hP
  have hP : va_P D vwCl [(xx, .inr (0, [.ref st, .ref dq, .ref sb])), (st, .inr (1, [.ref jo, .ref slo, .ref sao, .ref seo, .int (f 1), .int (f 2), .int (f 3), .int (f 4), .int (f 5), .int (f 6)])), (jo, .inr (2, [.ref alo])), (alo, .inr (9, [.int mco, .ref aeo, .int (nI (rN f))])), (slo, .inl (dA 0, 3, .inl (slF f))), (sao, .inl (dA 4, 2, .inr (.inr (.inr (.inr h))))), (seo, .inl (dA 0, 2, .inl (seF f))), (t0, .inr (3, [.int (nI (rcN f 0)), .int (nI (apN f 0)), .ref c0, .int (nI (acN f 0))])), (c0, .inr (10, [.ref d0, .int (nI (uOf W0)), .int e0])), (d0, .inl (dA 1, 2, .inr (.inl (lwd W0)))), (t1, .inr (3, [.int (nI (rcN f 1)), .int (nI (apN f 1)), .ref c1, .int (nI (acN f 1))])), (c1, .inr (10, [.ref d1, .int (nI (uOf W1)), .int e1])), (d1, .inl (dA 1, 2, .inr (.inl (lwd W1))))] s.heap := hP
  have hI := hB.a
  have hn9 := hI.2.1
  obtain ⟨qa0, qb0, qc0, qd0⟩ := InvA_ap hI (b := 0) (by omega)
  obtain ⟨qa1, qb1, qc1, qd1⟩ := InvA_ap hI (b := 1) (by omega)
  obtain ⟨hac0, ha0⟩ := hB.ac (b := 0) (by omega)
  obtain ⟨hac1, ha1⟩ := hB.ac (b := 1) (by omega)
  have hl := lv_entry ([.ref xx, .ref t1, .int (nI (kw))]) (n := 3) (Nat.le_of_ble_eq_true rfl)
  rw [lg_entry_eq]
  generalize (lg_sl ([.ref xx, .ref t1, .int (nI (kw))]) ++ List.replicate (3 - (lg_sl ([.ref xx, .ref t1, .int (nI (kw))])).length) Slot.unset).toArray = ls at hl ⊢
  have hl : lv_has ls 3 [(0, .ref xx), (1, .ref t1), (2, .int (nI (kw)))] := hl
  refine lv_iload_n hx hb dX0_behind_0 rfl (lv_at hl 2 rfl) ?_
  rcases (show kw = 5 ∨ kw = 6 ∨ kw = 7 ∨ kw = 8 by omega) with rfl | rfl | rfl | rfl
  · refine lv_tableIn (off := 27) (tgt := 28) hx hb dX0_behind_1 (by decide) (by decide) (by decide) (by decide) ?_
    refine lv_aload_n hx hb dX0_behind_28 rfl (lv_at hl 0 rfl) ?_
    refine va_get (D := D) (ci := 0) (v := .ref st) (C := RX0) (T := TX0) (N := 3) hx hb hts in_X0 hown hK hP 0 rfl rfl 0 (by decide) (hts _ q284) (fun _ h9 => h9) rfl dX0_behind_29 ?_
    refine va_getN (D := D) (ci := 1) (v := .ref jo) (C := RX1) (T := TX1) (N := 10) hx hb hts in_X1 hown hK hP 1 rfl rfl 0 (by decide) (Cx.nF hC (List.mem_of_getElem? (i := 5) rfl)) (fun _ h9 => h9) rfl dX0_behind_32 ?_
    refine z_cVi (As := []) (rest := []) ⟨hx, hb, hml, hown, hts⟩ (mX2_size l D dA ad s.heap.size jo alo mco aeo (rN f)) (cwV 0 hts (lw_V q926 q637 q638 q56 q639) rfl rfl rfl (by decide +kernel) ⟨Nat.le_of_ble_eq_true rfl, Nat.le_of_ble_eq_true rfl⟩) hC hS (fun _ h => hA _ (Nat.le_trans hS.1 h)) (hP.sub (ws' := [(jo, .inr (2, [.ref alo])), (alo, .inr (9, [.int mco, .ref aeo, .int (nI (rN f))]))]) [2, 3] rfl) (va_recv hK hP (ci := 2) (q0 := 2) rfl rfl) rfl rfl hl.1 (Nat.le_of_ble_eq_true rfl) dX0_behind_35 ⟨Nat.le_of_ble_eq_true rfl, Nat.le_of_ble_eq_true rfl⟩ (fun r_1 H locs hQ hF hS => ?_)
    have hP := va_P.ro hF hP
    obtain rfl : nI ((rN f)) = r_1 := hQ.symm
    refine lv_aload_n hx hb dX0_behind_38 rfl (lv_at hl 1 rfl) ?_
    refine va_getN (D := D) (ci := 3) (v := .int (nI (apN f 1))) (C := RX3) (T := TX3) (N := 4) hx hb hts in_X3 hown hK hP 10 rfl rfl 1 (by decide) (Cx.nF hC (List.mem_of_getElem? (i := 2) rfl)) (fun _ h9 => h9) rfl dX0_behind_39 ?_
    refine lv_isub hx hb dX0_behind_42 ?_
    refine lv_tope (y := nI ((rN f) - (apN f 1))) (pk_sub (by omega)) ?_
    exact z_iret (v := nI ((rN f) - (apN f 1))) hx hb hr hS (rfl) (by omega) (by omega) dX0_behind_43
  · refine lv_tableIn (off := 43) (tgt := 44) hx hb dX0_behind_1 (by decide) (by decide) (by decide) (by decide) ?_
    refine lv_aload_n hx hb dX0_behind_44 rfl (lv_at hl 0 rfl) ?_
    refine va_get (D := D) (ci := 0) (v := .ref st) (C := RX0) (T := TX0) (N := 3) hx hb hts in_X0 hown hK hP 0 rfl rfl 0 (by decide) (hts _ q284) (fun _ h9 => h9) rfl dX0_behind_45 ?_
    refine lv_aload_n hx hb dX0_behind_48 rfl (lv_at hl 1 rfl) ?_
    refine va_getN (D := D) (ci := 3) (v := .int (nI (apN f 1))) (C := RX3) (T := TX3) (N := 4) hx hb hts in_X3 hown hK hP 10 rfl rfl 1 (by decide) (Cx.nF hC (List.mem_of_getElem? (i := 2) rfl)) (fun _ h9 => h9) rfl dX0_behind_49 ?_
    refine z_cVi (As := [.int (nI (apN f 1))]) (rest := []) ⟨hx, hb, hml, hown, hts⟩ (mX1_commitsBehind l D dA ad s.heap.size st jo slo sao seo (f 1) (f 2) (f 3) (f 4) (f 5) (f 6) alo mco aeo (rN f) f (apN f 1) (by omega)) (cwV 1 hts (lw_V q1002 q728 q729 q55 q730) rfl rfl rfl (by decide +kernel) ⟨Nat.le_of_ble_eq_true rfl, Nat.le_of_ble_eq_true rfl⟩) hC hS (fun _ h => hA _ (Nat.le_trans hS.1 h)) ⟨(hP.sub (ws' := [(st, .inr (1, [.ref jo, .ref slo, .ref sao, .ref seo, .int (f 1), .int (f 2), .int (f 3), .int (f 4), .int (f 5), .int (f 6)])), (jo, .inr (2, [.ref alo])), (alo, .inr (9, [.int mco, .ref aeo, .int (nI (rN f))]))]) [1, 2, 3] rfl), (hP2.kept hS).ro⟩ (va_recv hK hP (ci := 1) (q0 := 1) rfl rfl) rfl rfl hl.1 (Nat.le_of_ble_eq_true rfl) dX0_behind_52 ⟨Nat.le_of_ble_eq_true rfl, Nat.le_of_ble_eq_true rfl⟩ (fun r_2 H locs hQ hF hS => ?_)
    have hP := va_P.ro hF hP
    obtain rfl : nI (commits f ((apN f 1) + 1) ((rN f) - (apN f 1))) = r_2 := hQ.symm
    exact z_iret (v := nI (commits f ((apN f 1) + 1) ((rN f) - (apN f 1)))) hx hb hr hS (rfl) (by omega) (by omega) dX0_behind_55
  · refine lv_tableIn (off := 55) (tgt := 56) hx hb dX0_behind_1 (by decide) (by decide) (by decide) (by decide) ?_
    refine lv_aload_n hx hb dX0_behind_56 rfl (lv_at hl 1 rfl) ?_
    refine va_getN (D := D) (ci := 3) (v := .int (nI (apN f 1))) (C := RX3) (T := TX3) (N := 4) hx hb hts in_X3 hown hK hP 10 rfl rfl 1 (by decide) (Cx.nF hC (List.mem_of_getElem? (i := 2) rfl)) (fun _ h9 => h9) rfl dX0_behind_57 ?_
    refine lv_aload_n hx hb dX0_behind_60 rfl (lv_at hl 0 rfl) ?_
    refine va_get (D := D) (ci := 0) (v := .ref st) (C := RX0) (T := TX0) (N := 3) hx hb hts in_X0 hown hK hP 0 rfl rfl 0 (by decide) (hts _ q284) (fun _ h9 => h9) rfl dX0_behind_61 ?_
    refine va_getN (D := D) (ci := 1) (v := .ref jo) (C := RX1) (T := TX1) (N := 10) hx hb hts in_X1 hown hK hP 1 rfl rfl 0 (by decide) (Cx.nF hC (List.mem_of_getElem? (i := 5) rfl)) (fun _ h9 => h9) rfl dX0_behind_64 ?_
    refine z_cVi (As := []) (rest := [.int (nI (apN f 1))]) ⟨hx, hb, hml, hown, hts⟩ (mX2_size l D dA ad s.heap.size jo alo mco aeo (rN f)) (cwV 0 hts (lw_V q926 q637 q638 q56 q639) rfl rfl rfl (by decide +kernel) ⟨Nat.le_of_ble_eq_true rfl, Nat.le_of_ble_eq_true rfl⟩) hC hS (fun _ h => hA _ (Nat.le_trans hS.1 h)) (hP.sub (ws' := [(jo, .inr (2, [.ref alo])), (alo, .inr (9, [.int mco, .ref aeo, .int (nI (rN f))]))]) [2, 3] rfl) (va_recv hK hP (ci := 2) (q0 := 2) rfl rfl) rfl rfl hl.1 (Nat.le_of_ble_eq_true rfl) dX0_behind_67 ⟨Nat.le_of_ble_eq_true rfl, Nat.le_of_ble_eq_true rfl⟩ (fun r_3 H locs hQ hF hS => ?_)
    have hP := va_P.ro hF hP
    obtain rfl : nI ((rN f)) = r_3 := hQ.symm
    refine lv_icmp_ne (tgt := 78) hx hb dX0_behind_70 (by decide) (fun c_4 => ?_) (fun c_4 => ?_)
    · have c_4 := mt (nI_eq (by omega) (by omega)).2 c_4
      refine lv_aload_n hx hb dX0_behind_78 rfl (lv_at hl 0 rfl) ?_
      refine va_get (D := D) (ci := 0) (v := .ref st) (C := RX0) (T := TX0) (N := 3) hx hb hts in_X0 hown hK hP 0 rfl rfl 0 (by decide) (hts _ q284) (fun _ h9 => h9) rfl dX0_behind_79 ?_
      refine va_getN (D := D) (ci := 1) (v := .int (f 1)) (C := RX1) (T := TX1) (N := 10) hx hb hts in_X1 hown hK hP 1 rfl rfl 4 (by decide) (Cx.nF hC (List.mem_of_getElem? (i := 9) rfl)) (fun _ h9 => h9) rfl dX0_behind_82 ?_
      refine lv_aload_n hx hb dX0_behind_85 rfl (lv_at hl 0 rfl) ?_
      refine va_get (D := D) (ci := 0) (v := .ref st) (C := RX0) (T := TX0) (N := 3) hx hb hts in_X0 hown hK hP 0 rfl rfl 0 (by decide) (hts _ q284) (fun _ h9 => h9) rfl dX0_behind_86 ?_
      refine va_getN (D := D) (ci := 1) (v := .ref jo) (C := RX1) (T := TX1) (N := 10) hx hb hts in_X1 hown hK hP 1 rfl rfl 0 (by decide) (Cx.nF hC (List.mem_of_getElem? (i := 5) rfl)) (fun _ h9 => h9) rfl dX0_behind_89 ?_
      refine lv_aload_n hx hb dX0_behind_92 rfl (lv_at hl 1 rfl) ?_
      refine va_getN (D := D) (ci := 3) (v := .int (nI (apN f 1))) (C := RX3) (T := TX3) (N := 4) hx hb hts in_X3 hown hK hP 10 rfl rfl 1 (by decide) (Cx.nF hC (List.mem_of_getElem? (i := 2) rfl)) (fun _ h9 => h9) rfl dX0_behind_93 ?_
      refine lv_iconst (v := nI (1)) hx hb dX0_behind_96 (by decide) ?_
      refine lv_iadd hx hb dX0_behind_97 ?_
      refine lv_tope (y := nI ((apN f 1) + 1)) (nI_add _ _) ?_
      obtain ⟨y9, cap9, g9, hc9, hd9, hE9, hy9, hN9, hV9⟩ := (hP2.kept hS).ro.at (r := apN f 1 + 1) (by omega) (by omega)
      have hP := (hP.app (va_P1 hE9)).app (va_P1 hN9)
      have hP : va_P D vwCl [(xx, .inr (0, [.ref st, .ref dq, .ref sb])), (st, .inr (1, [.ref jo, .ref slo, .ref sao, .ref seo, .int (f 1), .int (f 2), .int (f 3), .int (f 4), .int (f 5), .int (f 6)])), (jo, .inr (2, [.ref alo])), (alo, .inr (9, [.int mco, .ref aeo, .int (nI (rN f))])), (slo, .inl (dA 0, 3, .inl (slF f))), (sao, .inl (dA 4, 2, .inr (.inr (.inr (.inr h))))), (seo, .inl (dA 0, 2, .inl (seF f))), (t0, .inr (3, [.int (nI (rcN f 0)), .int (nI (apN f 0)), .ref c0, .int (nI (acN f 0))])), (c0, .inr (10, [.ref d0, .int (nI (uOf W0)), .int e0])), (d0, .inl (dA 1, 2, .inr (.inl (lwd W0)))), (t1, .inr (3, [.int (nI (rcN f 1)), .int (nI (apN f 1)), .ref c1, .int (nI (acN f 1))])), (c1, .inr (10, [.ref d1, .int (nI (uOf W1)), .int e1])), (d1, .inl (dA 1, 2, .inr (.inl (lwd W1)))), (aeo, .inl (dA 3, cap9, .inr (.inr (.inr (.inr g9))))), (y9, .inr (6, [.int (rcf f (apN f 1 + 1) 0), .int (rcf f (apN f 1 + 1) 1), .int (nfF f (apN f 1 + 1) 2), .int (nfF f (apN f 1 + 1) 3), .int (rcf f (apN f 1 + 1) 4)]))] H := hP
      refine z_cVr (As := [.int (nI ((apN f 1) + 1))]) (rest := [.int (f 1)]) ⟨hx, hb, hml, hown, hts⟩ (mX2_at l D dA ad H.size jo alo mco aeo (rN f) cap9 g9 ((apN f 1) + 1) y9 (by omega) (by omega) (hc9) (by omega) (hy9)) (cwV 1 hts (lw_V q973 q732 q733 q56 q734) rfl rfl rfl (by decide +kernel) ⟨Nat.le_of_ble_eq_true rfl, Nat.le_of_ble_eq_true rfl⟩) hC hS (fun _ h => hA _ (Nat.le_trans hS.1 h)) ⟨(hP.sub (ws' := [(jo, .inr (2, [.ref alo])), (alo, .inr (9, [.int mco, .ref aeo, .int (nI (rN f))])), (aeo, .inl (dA 3, cap9, .inr (.inr (.inr (.inr g9)))))]) [2, 3, 13] rfl), hV9⟩ (va_recv hK hP (ci := 2) (q0 := 2) rfl rfl) rfl rfl hl.1 (Nat.le_of_ble_eq_true rfl) dX0_behind_98 ⟨Nat.le_of_ble_eq_true rfl, Nat.le_of_ble_eq_true rfl⟩ (fun r_5 H locs hQ hF hS => ?_)
      have hP := va_P.ro hF hP
      obtain rfl : y9 = r_5 := hQ.symm
      refine va_castE hx hb hown (hts _ q974) (va_recv hK hP (ci := 6) (q0 := 14) rfl rfl) dX0_behind_101 ?_
      refine va_getN (D := D) (ci := 6) (v := .int (rcf f (apN f 1 + 1) 4)) (C := RX6) (T := TX6) (N := 5) hx hb hts in_X6 hown hK hP 14 rfl rfl 4 (by decide) (Cx.nF hC (List.mem_of_getElem? (i := 16) rfl)) (fun _ h9 => h9) rfl dX0_behind_104 ?_
      refine lv_isub hx hb dX0_behind_107 ?_
      exact z_iret (v := (f 1) - (rcf f (apN f 1 + 1) 4)) hx hb hr hS ((if_neg c_4).symm) (by omega) (by omega) dX0_behind_108
    · have c_4 := (nI_eq (by omega) (by omega)).1 c_4
      refine lv_ldc (v := (-1000004)) hx hb hown (hts _ q962) dX0_behind_73 ?_
      refine lv_goto (tgt := 108) hx hb dX0_behind_75 (by decide) ?_
      exact z_iret (v := (-1000004)) hx hb hr hS ((if_pos c_4).symm) (by omega) (by omega) dX0_behind_108
  · refine lv_tableOut (tgt := 109) hx hb dX0_behind_1 (by decide) (by decide) ?_
    refine lv_aload_n hx hb dX0_behind_109 rfl (lv_at hl 0 rfl) ?_
    refine va_get (D := D) (ci := 0) (v := .ref st) (C := RX0) (T := TX0) (N := 3) hx hb hts in_X0 hown hK hP 0 rfl rfl 0 (by decide) (hts _ q284) (fun _ h9 => h9) rfl dX0_behind_110 ?_
    refine lv_aload_n hx hb dX0_behind_113 rfl (lv_at hl 1 rfl) ?_
    refine va_getN (D := D) (ci := 3) (v := .int (nI (apN f 1))) (C := RX3) (T := TX3) (N := 4) hx hb hts in_X3 hown hK hP 10 rfl rfl 1 (by decide) (Cx.nF hC (List.mem_of_getElem? (i := 2) rfl)) (fun _ h9 => h9) rfl dX0_behind_114 ?_
    refine z_cVi (As := [.int (nI (apN f 1))]) (rest := []) ⟨hx, hb, hml, hown, hts⟩ (mX1_unlikeKeys l D dA ad s.heap.size st jo slo sao seo (f 1) (f 2) (f 3) (f 4) (f 5) (f 6) alo mco aeo (rN f) f (apN f 1) (by omega)) (cwV 1 hts (lw_V q1003 q1004 q1005 q55 q1006) rfl rfl rfl (by decide +kernel) ⟨Nat.le_of_ble_eq_true rfl, Nat.le_of_ble_eq_true rfl⟩) hC hS (fun _ h => hA _ (Nat.le_trans hS.1 h)) ⟨(hP.sub (ws' := [(st, .inr (1, [.ref jo, .ref slo, .ref sao, .ref seo, .int (f 1), .int (f 2), .int (f 3), .int (f 4), .int (f 5), .int (f 6)])), (jo, .inr (2, [.ref alo])), (alo, .inr (9, [.int mco, .ref aeo, .int (nI (rN f))]))]) [1, 2, 3] rfl), (hP2.kept hS).ro⟩ (va_recv hK hP (ci := 1) (q0 := 1) rfl rfl) rfl rfl hl.1 (Nat.le_of_ble_eq_true rfl) dX0_behind_117 ⟨Nat.le_of_ble_eq_true rfl, Nat.le_of_ble_eq_true rfl⟩ (fun r_6 H locs hQ hF hS => ?_)
    have hP := va_P.ro hF hP
    obtain rfl : nI (unC f (apN f 1) (rN f) 24) = r_6 := hQ.symm
    exact z_iret (v := nI (unC f (apN f 1) (rN f) 24)) hx hb hr hS (congrArg nI (unC_eq hB (by omega) 24)) (by omega) (by omega) dX0_behind_120
