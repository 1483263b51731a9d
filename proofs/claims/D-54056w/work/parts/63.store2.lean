set_option maxHeartbeats 4000000 in
set_option maxRecDepth 100000 in
theorem mX1_lastCommit (l : Launch) (D : va_G) (dA : Nat → ClassId) (ad : Nat → Nat) (sz : Nat) (st : Nat) (jn : Nat) (sl : Nat) (sa : Nat) (se : Nat) (tk : Int32) (tl : Int32) (tr : Int32) (lc : Int32) (lr : Int32) (ax : Int32) (al : Nat) (mc : Int32) (ae : Nat) (n : Nat) (f : Nat → Int32) (key : Int32) (po : Nat) (h1 : po ≤ n) : Met l yX1_lastCommit (ws_ yX1_lastCommit cX1_lastCommit 6 (some .int)) ({ frames := 5, cells := 0, slots := 0, locals := 170 }) (va_Pc [.ref st, .int key, .int (nI (po))] (zP D dA ad (fun q => sz ≤ q) sz (fun H => va_P D vwCl [(st, .inr (1, [.ref jn, .ref sl, .ref sa, .ref se, .int tk, .int tl, .int tr, .int lc, .int lr, .int ax])), (jn, .inr (2, [.ref al])), (al, .inr (9, [.int mc, .ref ae, .int (nI (n))]))] H ∧ LogRA D dA (fun q => sz ≤ q) f ae n H))) (zQi (fun rz H => rz = nI (lcC f key po)) (fun q => sz ≤ q)) (0) (0) (fun q => sz ≤ q) := by
  refine Met.ofW (cc := cX1_lastCommit) (maxL := 6) (ret := (some .int)) (by decide) rfl ?_
  intro p e s m args below meth c s₁ B hml hv
  obtain ⟨rfl, hsz, hC, hP⟩ := hv
  have hx := B.exec
  have hb := B.bytes
  have hr := B.returns
  have hts := atoms_spec (ws := ws_ yX1_lastCommit cX1_lastCommit 6 (some .int)) B.pre
  have hts : ∀ w ∈ lw_all, w.before _ s = true := fun w h => hts w (List.mem_cons_of_mem _ h)
  have hown : s.vm.findClass RX1 = some m.cls := findClass_of_methodNamed B.named
  have hlocks := B.notSynchronized
  subst hsz
  have hK := hC.K
  have hA : ∀ q : Nat, s.heap.size ≤ q → s.heap.size ≤ q := fun _ h => h
  have hS : va_S (fun q => s.heap.size ≤ q) s.heap s.heap [] := va_S.rf
  obtain ⟨hP, hP2⟩ := hP
  have hP : va_P D vwCl [(st, .inr (1, [.ref jn, .ref sl, .ref sa, .ref se, .int tk, .int tl, .int tr, .int lc, .int lr, .int ax])), (jn, .inr (2, [.ref al])), (al, .inr (9, [.int mc, .ref ae, .int (nI (n))]))] s.heap := hP
  have hn9 := hP2.1
  have hl := lv_entry ([.ref st, .int key, .int (nI (po))]) (n := 6) (Nat.le_of_ble_eq_true rfl)
  rw [lg_entry_eq]
  generalize (lg_sl ([.ref st, .int key, .int (nI (po))]) ++ List.replicate (6 - (lg_sl ([.ref st, .int key, .int (nI (po))])).length) Slot.unset).toArray = ls at hl ⊢
  have hl : lv_has ls 6 [(0, .ref st), (1, .int key), (2, .int (nI (po)))] := hl
  refine lv_iconst (v := nI (0)) hx hb dX1_lastCommit_0 (by decide) ?_
  refine lv_istore_n (lv' := [(3, .int (nI (0))), (0, .ref st), (1, .int key), (2, .int (nI (po)))]) hx hb dX1_lastCommit_1 rfl hl (by decide) rfl (fun ls hl => ?_)
  refine lv_iconst (v := nI (1)) hx hb dX1_lastCommit_2 (by decide) ?_
  refine lv_istore (lv' := [(4, .int (nI (1))), (3, .int (nI (0))), (0, .ref st), (1, .int key), (2, .int (nI (po)))]) hx hb dX1_lastCommit_3 hl (by decide) rfl (fun ls hl => ?_)
  refine z_loop (σ := Nat) (fun x => po - x) (fun x H locs ls => va_P D vwCl [(st, .inr (1, [.ref jn, .ref sl, .ref sa, .ref se, .int tk, .int tl, .int tr, .int lc, .int lr, .int ax])), (jn, .inr (2, [.ref al])), (al, .inr (9, [.int mc, .ref ae, .int (nI (n))]))] H ∧ va_S (fun q => s.heap.size ≤ q) s.heap H locs ∧ lv_has ls 6 [(0, .ref st), (1, .int key), (2, .int (nI (po))), (3, .int (nI (lcC f key x))), (4, .int (nI (x + 1)))] ∧ x ≤ po) (0) ⟨hP, hS, (lv_sub (l' := [(0, .ref st), (1, .int key), (2, .int (nI (po))), (3, .int (nI (lcC f key 0))), (4, .int (nI (0 + 1)))]) hl [2, 3, 4, 1, 0] rfl), by omega⟩ ?_
  intro x H locs ls ⟨hP, hS, hl, hx1⟩ ih_5
  refine lv_iload hx hb dX1_lastCommit_5 (lv_at hl 4 rfl) ?_
  refine lv_iload_n hx hb dX1_lastCommit_7 rfl (lv_at hl 2 rfl) ?_
  refine lv_icmp_gt (tgt := 63) hx hb dX1_lastCommit_8 (by decide) (fun c_1 => ?_) (fun c_1 => ?_)
  · have c_1 := (nI_ltI (by omega) (by omega)).1 c_1
    refine lv_iload_n hx hb dX1_lastCommit_63 rfl (lv_at hl 3 rfl) ?_
    exact z_iret (v := nI (lcC f key x)) hx hb hr hS (by rw [show po = x by omega]) (by omega) (by omega) dX1_lastCommit_64
  · have c_1 := mt (nI_ltI (by omega) (by omega)).2 c_1
    refine lv_aload_n hx hb dX1_lastCommit_11 rfl (lv_at hl 0 rfl) ?_
    refine va_get (D := D) (ci := 1) (v := .ref jn) (C := RX1) (T := TX1) (N := 10) hx hb hts in_X1 hown hK hP 0 rfl rfl 0 (by decide) (hts _ q192) (fun _ h9 => h9) rfl dX1_lastCommit_12 ?_
    refine lv_iload hx hb dX1_lastCommit_15 (lv_at hl 4 rfl) ?_
    obtain ⟨y9, cap9, g9, hc9, hd9, hE9, hy9, hN9, hV9⟩ := (hP2.kept hS).ro.at (r := x + 1) (by omega) (by omega)
    have hP := (hP.app (va_P1 hE9)).app (va_P1 hN9)
    have hP : va_P D vwCl [(st, .inr (1, [.ref jn, .ref sl, .ref sa, .ref se, .int tk, .int tl, .int tr, .int lc, .int lr, .int ax])), (jn, .inr (2, [.ref al])), (al, .inr (9, [.int mc, .ref ae, .int (nI (n))])), (ae, .inl (dA 3, cap9, .inr (.inr (.inr (.inr g9))))), (y9, .inr (6, [.int (rcf f (x + 1) 0), .int (rcf f (x + 1) 1), .int (nfF f (x + 1) 2), .int (nfF f (x + 1) 3), .int (rcf f (x + 1) 4)]))] H := hP
    refine z_cVr (As := [.int (nI (x + 1))]) (rest := []) ⟨hx, hb, hml, hown, hts⟩ (mX2_at l D dA ad H.size jn al mc ae n cap9 g9 (x + 1) y9 (by omega) (by omega) (hc9) (by omega) (hy9)) (cwV 1 hts (lw_V q731 q732 q733 q56 q734) rfl rfl rfl (by decide +kernel) ⟨Nat.le_of_ble_eq_true rfl, Nat.le_of_ble_eq_true rfl⟩) hC hS (fun _ h => hA _ (Nat.le_trans hS.1 h)) ⟨(hP.sub (ws' := [(jn, .inr (2, [.ref al])), (al, .inr (9, [.int mc, .ref ae, .int (nI (n))])), (ae, .inl (dA 3, cap9, .inr (.inr (.inr (.inr g9)))))]) [1, 2, 3] rfl), hV9⟩ (va_recv hK hP (ci := 2) (q0 := 1) rfl rfl) rfl rfl hl.1 (Nat.le_of_ble_eq_true rfl) dX1_lastCommit_17 ⟨Nat.le_of_ble_eq_true rfl, Nat.le_of_ble_eq_true rfl⟩ (fun r_2 H locs hQ hF hS => ?_)
    have hP := va_P.ro hF hP
    obtain rfl : y9 = r_2 := hQ.symm
    refine va_castE hx hb hown (hts _ q645) (va_recv hK hP (ci := 6) (q0 := 4) rfl rfl) dX1_lastCommit_20 ?_
    refine lv_astore (lv' := [(5, .ref y9), (0, .ref st), (1, .int key), (2, .int (nI (po))), (3, .int (nI (lcC f key x))), (4, .int (nI (x + 1)))]) hx hb dX1_lastCommit_23 hl (by decide) rfl (fun ls hl => ?_)
    refine lv_aload hx hb dX1_lastCommit_25 (lv_at hl 0 rfl) ?_
    refine va_getN (D := D) (ci := 6) (v := .int (rcf f (x + 1) 0)) (C := RX6) (T := TX6) (N := 5) hx hb hts in_X6 hown hK hP 4 rfl rfl 0 (by decide) (Cx.nF hC (List.mem_of_getElem? (i := 24) rfl)) (fun _ h9 => h9) rfl dX1_lastCommit_27 ?_
    refine lv_iconst (v := nI (1)) hx hb dX1_lastCommit_30 (by decide) ?_
    refine lv_icmp_ne (tgt := 55) hx hb dX1_lastCommit_31 (by decide) (fun c_3 => ?_) (fun c_3 => ?_)
    · refine lv_iload_n hx hb dX1_lastCommit_55 rfl (lv_at hl 4 rfl) ?_
      refine lv_istore_n (lv' := [(3, .int (nI (lcC f key x))), (5, .ref y9), (0, .ref st), (1, .int key), (2, .int (nI (po))), (4, .int (nI (x + 1)))]) hx hb dX1_lastCommit_56 rfl hl (by decide) rfl (fun ls hl => ?_)
      refine lv_iinc (v := nI (x + 1 + 1)) (lv' := [(4, .int (nI (x + 1 + 1))), (3, .int (nI (lcC f key x))), (5, .ref y9), (0, .ref st), (1, .int key), (2, .int (nI (po)))]) hx hb dX1_lastCommit_57 hl (k := 5) rfl (nI_add _ _) (by decide) rfl (fun ls hl => ?_)
      refine lv_goto (tgt := 5) hx hb dX1_lastCommit_60 (by decide) ?_
      exact ih_5 (x + 1) H locs ls ⟨(hP.sub [0, 1, 2] rfl), hS, (lv_sub (l' := [(0, .ref st), (1, .int key), (2, .int (nI (po))), (3, .int (nI (lcC f key (x + 1)))), (4, .int (nI ((x + 1) + 1)))]) hl [3, 4, 5, 1, 0] (by rw [lcC_f1 c_3]; rfl)), by omega⟩ (by omega)
    · refine lv_aload_n hx hb dX1_lastCommit_34 rfl (lv_at hl 1 rfl) ?_
      refine lv_aload hx hb dX1_lastCommit_35 (lv_at hl 0 rfl) ?_
      refine va_getN (D := D) (ci := 6) (v := .int (rcf f (x + 1) 1)) (C := RX6) (T := TX6) (N := 5) hx hb hts in_X6 hown hK hP 4 rfl rfl 1 (by decide) (Cx.nF hC (List.mem_of_getElem? (i := 25) rfl)) (fun _ h9 => h9) rfl dX1_lastCommit_37 ?_
      refine lv_iload_n hx hb dX1_lastCommit_40 rfl (lv_at hl 2 rfl) ?_
      refine lv_iload hx hb dX1_lastCommit_41 (lv_at hl 5 rfl) ?_
      refine z_cVi (As := [.int (rcf f (x + 1) 1), .int key, .int (nI (x + 1))]) (rest := []) ⟨hx, hb, hml, hown, hts⟩ (mX1_putBy l D dA ad H.size st jn sl sa se tk tl tr lc lr ax al mc ae n f (rcf f (x + 1) 1) key (x + 1) (by omega)) (cwV 3 hts (lw_V q939 q941 qs19 q55 q942) rfl rfl rfl (by decide +kernel) ⟨Nat.le_of_ble_eq_true rfl, Nat.le_of_ble_eq_true rfl⟩) hC hS (fun _ h => hA _ (Nat.le_trans hS.1 h)) ⟨(hP.sub (ws' := [(st, .inr (1, [.ref jn, .ref sl, .ref sa, .ref se, .int tk, .int tl, .int tr, .int lc, .int lr, .int ax])), (jn, .inr (2, [.ref al])), (al, .inr (9, [.int mc, .ref ae, .int (nI (n))]))]) [0, 1, 2] rfl), (hP2.kept hS).ro⟩ (va_recv hK hP (ci := 1) (q0 := 0) rfl rfl) rfl rfl hl.1 (Nat.le_of_ble_eq_true rfl) dX1_lastCommit_43 ⟨Nat.le_of_ble_eq_true rfl, Nat.le_of_ble_eq_true rfl⟩ (fun r_4 H locs hQ hF hS => ?_)
      have hP := va_P.ro hF hP
      obtain rfl : pvF f (rcf f (x + 1) 1) key (x + 1) = r_4 := hQ.symm
      refine lv_iconst (v := (-1)) hx hb dX1_lastCommit_46 (by decide) ?_
      refine lv_icmp_eq (tgt := 55) hx hb dX1_lastCommit_47 (by decide) (fun c_5 => ?_) (fun c_5 => ?_)
      · refine lv_iload_n hx hb dX1_lastCommit_55 rfl (lv_at hl 4 rfl) ?_
        refine lv_istore_n (lv' := [(3, .int (nI (lcC f key x))), (5, .ref y9), (0, .ref st), (1, .int key), (2, .int (nI (po))), (4, .int (nI (x + 1)))]) hx hb dX1_lastCommit_56 rfl hl (by decide) rfl (fun ls hl => ?_)
        refine lv_iinc (v := nI (x + 1 + 1)) (lv' := [(4, .int (nI (x + 1 + 1))), (3, .int (nI (lcC f key x))), (5, .ref y9), (0, .ref st), (1, .int key), (2, .int (nI (po)))]) hx hb dX1_lastCommit_57 hl (k := 5) rfl (nI_add _ _) (by decide) rfl (fun ls hl => ?_)
        refine lv_goto (tgt := 5) hx hb dX1_lastCommit_60 (by decide) ?_
        exact ih_5 (x + 1) H locs ls ⟨(hP.sub [0, 1, 2] rfl), hS, (lv_sub (l' := [(0, .ref st), (1, .int key), (2, .int (nI (po))), (3, .int (nI (lcC f key (x + 1)))), (4, .int (nI ((x + 1) + 1)))]) hl [3, 4, 5, 1, 0] (by rw [lcC_f2 c_5]; rfl)), by omega⟩ (by omega)
      · refine lv_iload hx hb dX1_lastCommit_50 (lv_at hl 5 rfl) ?_
        refine lv_goto (tgt := 56) hx hb dX1_lastCommit_52 (by decide) ?_
        refine lv_istore_n (lv' := [(3, .int (nI (x + 1))), (5, .ref y9), (0, .ref st), (1, .int key), (2, .int (nI (po))), (4, .int (nI (x + 1)))]) hx hb dX1_lastCommit_56 rfl hl (by decide) rfl (fun ls hl => ?_)
        refine lv_iinc (v := nI (x + 1 + 1)) (lv' := [(4, .int (nI (x + 1 + 1))), (3, .int (nI (x + 1))), (5, .ref y9), (0, .ref st), (1, .int key), (2, .int (nI (po)))]) hx hb dX1_lastCommit_57 hl (k := 5) rfl (nI_add _ _) (by decide) rfl (fun ls hl => ?_)
        refine lv_goto (tgt := 5) hx hb dX1_lastCommit_60 (by decide) ?_
        exact ih_5 (x + 1) H locs ls ⟨(hP.sub [0, 1, 2] rfl), hS, (lv_sub (l' := [(0, .ref st), (1, .int key), (2, .int (nI (po))), (3, .int (nI (lcC f key (x + 1)))), (4, .int (nI ((x + 1) + 1)))]) hl [3, 4, 5, 1, 0] (by rw [lcC_t c_3 c_5]; rfl)), by omega⟩ (by omega)

set_option maxHeartbeats 4000000 in
set_option maxRecDepth 100000 in
theorem mX1_value (l : Launch) (D : va_G) (dA : Nat → ClassId) (ad : Nat → Nat) (sz : Nat) (st : Nat) (jn : Nat) (sl : Nat) (sa : Nat) (se : Nat) (tk : Int32) (tl : Int32) (tr : Int32) (lc : Int32) (lr : Int32) (ax : Int32) (al : Nat) (mc : Int32) (ae : Nat) (n : Nat) (f : Nat → Int32) (key : Int32) (po : Nat) (h1 : po ≤ n) : Met l yX1_value (ws_ yX1_value cX1_value 4 (some .int)) ({ frames := 6, cells := 0, slots := 0, locals := 200 }) (va_Pc [.ref st, .int key, .int (nI (po))] (zP D dA ad (fun q => sz ≤ q) sz (fun H => va_P D vwCl [(st, .inr (1, [.ref jn, .ref sl, .ref sa, .ref se, .int tk, .int tl, .int tr, .int lc, .int lr, .int ax])), (jn, .inr (2, [.ref al])), (al, .inr (9, [.int mc, .ref ae, .int (nI (n))]))] H ∧ LogRA D dA (fun q => sz ≤ q) f ae n H))) (zQi (fun rz H => rz = vlC f key po) (fun q => sz ≤ q)) (0) (0) (fun q => sz ≤ q) := by
  refine Met.ofW (cc := cX1_value) (maxL := 4) (ret := (some .int)) (by decide) rfl ?_
  intro p e s m args below meth c s₁ B hml hv
  obtain ⟨rfl, hsz, hC, hP⟩ := hv
  have hx := B.exec
  have hb := B.bytes
  have hr := B.returns
  have hts := atoms_spec (ws := ws_ yX1_value cX1_value 4 (some .int)) B.pre
  have hts : ∀ w ∈ lw_all, w.before _ s = true := fun w h => hts w (List.mem_cons_of_mem _ h)
  have hown : s.vm.findClass RX1 = some m.cls := findClass_of_methodNamed B.named
  have hlocks := B.notSynchronized
  subst hsz
  have hK := hC.K
  have hA : ∀ q : Nat, s.heap.size ≤ q → s.heap.size ≤ q := fun _ h => h
  have hS : va_S (fun q => s.heap.size ≤ q) s.heap s.heap [] := va_S.rf
  obtain ⟨hP, hP2⟩ := hP
  have hP : va_P D vwCl [(st, .inr (1, [.ref jn, .ref sl, .ref sa, .ref se, .int tk, .int tl, .int tr, .int lc, .int lr, .int ax])), (jn, .inr (2, [.ref al])), (al, .inr (9, [.int mc, .ref ae, .int (nI (n))]))] s.heap := hP
  have hn9 := hP2.1
  have hlc := lcC_le f key po
  have hl := lv_entry ([.ref st, .int key, .int (nI (po))]) (n := 4) (Nat.le_of_ble_eq_true rfl)
  rw [lg_entry_eq]
  generalize (lg_sl ([.ref st, .int key, .int (nI (po))]) ++ List.replicate (4 - (lg_sl ([.ref st, .int key, .int (nI (po))])).length) Slot.unset).toArray = ls at hl ⊢
  have hl : lv_has ls 4 [(0, .ref st), (1, .int key), (2, .int (nI (po)))] := hl
  refine lv_aload_n hx hb dX1_value_0 rfl (lv_at hl 0 rfl) ?_
  refine lv_iload_n hx hb dX1_value_1 rfl (lv_at hl 1 rfl) ?_
  refine lv_iload_n hx hb dX1_value_2 rfl (lv_at hl 2 rfl) ?_
  refine z_cVi (As := [.int key, .int (nI (po))]) (rest := []) ⟨hx, hb, hml, hown, hts⟩ (mX1_lastCommit l D dA ad s.heap.size st jn sl sa se tk tl tr lc lr ax al mc ae n f key po (by omega)) (cwV 2 hts (lw_V q935 q936 q937 q55 q938) rfl rfl rfl (by decide +kernel) ⟨Nat.le_of_ble_eq_true rfl, Nat.le_of_ble_eq_true rfl⟩) hC hS (fun _ h => hA _ (Nat.le_trans hS.1 h)) ⟨(hP.sub (ws' := [(st, .inr (1, [.ref jn, .ref sl, .ref sa, .ref se, .int tk, .int tl, .int tr, .int lc, .int lr, .int ax])), (jn, .inr (2, [.ref al])), (al, .inr (9, [.int mc, .ref ae, .int (nI (n))]))]) [0, 1, 2] rfl), (hP2.kept hS).ro⟩ (va_recv hK hP (ci := 1) (q0 := 0) rfl rfl) rfl rfl hl.1 (Nat.le_of_ble_eq_true rfl) dX1_value_3 ⟨Nat.le_of_ble_eq_true rfl, Nat.le_of_ble_eq_true rfl⟩ (fun r_1 H locs hQ hF hS => ?_)
  have hP := va_P.ro hF hP
  obtain rfl : nI (lcC f key po) = r_1 := hQ.symm
  refine lv_istore_n (lv' := [(3, .int (nI (lcC f key po))), (0, .ref st), (1, .int key), (2, .int (nI (po)))]) hx hb dX1_value_6 rfl hl (by decide) rfl (fun ls hl => ?_)
  refine lv_iload_n hx hb dX1_value_7 rfl (lv_at hl 0 rfl) ?_
  refine lv_if_ne (tgt := 15) hx hb dX1_value_8 (by decide) (fun c_2 => ?_) (fun c_2 => ?_)
  · have c_2 := mt (nI_eq (by omega) (by omega)).2 (show ¬ nI _ = nI 0 from c_2)
    refine lv_aload_n hx hb dX1_value_15 rfl (lv_at hl 1 rfl) ?_
    refine lv_aload_n hx hb dX1_value_16 rfl (lv_at hl 1 rfl) ?_
    refine va_get (D := D) (ci := 1) (v := .ref jn) (C := RX1) (T := TX1) (N := 10) hx hb hts in_X1 hown hK hP 0 rfl rfl 0 (by decide) (hts _ q192) (fun _ h9 => h9) rfl dX1_value_17 ?_
    refine lv_iload_n hx hb dX1_value_20 rfl (lv_at hl 0 rfl) ?_
    obtain ⟨y9, cap9, g9, hc9, hd9, hE9, hy9, hN9, hV9⟩ := (hP2.kept hS).ro.at (r := lcC f key po) (by omega) (by omega)
    have hP := (hP.app (va_P1 hE9)).app (va_P1 hN9)
    have hP : va_P D vwCl [(st, .inr (1, [.ref jn, .ref sl, .ref sa, .ref se, .int tk, .int tl, .int tr, .int lc, .int lr, .int ax])), (jn, .inr (2, [.ref al])), (al, .inr (9, [.int mc, .ref ae, .int (nI (n))])), (ae, .inl (dA 3, cap9, .inr (.inr (.inr (.inr g9))))), (y9, .inr (6, [.int (rcf f (lcC f key po) 0), .int (rcf f (lcC f key po) 1), .int (nfF f (lcC f key po) 2), .int (nfF f (lcC f key po) 3), .int (rcf f (lcC f key po) 4)]))] H := hP
    refine z_cVr (As := [.int (nI (lcC f key po))]) (rest := [.ref st]) ⟨hx, hb, hml, hown, hts⟩ (mX2_at l D dA ad H.size jn al mc ae n cap9 g9 (lcC f key po) y9 (by omega) (by omega) (hc9) (by omega) (hy9)) (cwV 1 hts (lw_V q731 q732 q733 q56 q734) rfl rfl rfl (by decide +kernel) ⟨Nat.le_of_ble_eq_true rfl, Nat.le_of_ble_eq_true rfl⟩) hC hS (fun _ h => hA _ (Nat.le_trans hS.1 h)) ⟨(hP.sub (ws' := [(jn, .inr (2, [.ref al])), (al, .inr (9, [.int mc, .ref ae, .int (nI (n))])), (ae, .inl (dA 3, cap9, .inr (.inr (.inr (.inr g9)))))]) [1, 2, 3] rfl), hV9⟩ (va_recv hK hP (ci := 2) (q0 := 1) rfl rfl) rfl rfl hl.1 (Nat.le_of_ble_eq_true rfl) dX1_value_21 ⟨Nat.le_of_ble_eq_true rfl, Nat.le_of_ble_eq_true rfl⟩ (fun r_3 H locs hQ hF hS => ?_)
    have hP := va_P.ro hF hP
    obtain rfl : y9 = r_3 := hQ.symm
    refine va_castE hx hb hown (hts _ q645) (va_recv hK hP (ci := 6) (q0 := 4) rfl rfl) dX1_value_24 ?_
    refine va_getN (D := D) (ci := 6) (v := .int (rcf f (lcC f key po) 1)) (C := RX6) (T := TX6) (N := 5) hx hb hts in_X6 hown hK hP 4 rfl rfl 1 (by decide) (Cx.nF hC (List.mem_of_getElem? (i := 25) rfl)) (fun _ h9 => h9) rfl dX1_value_27 ?_
    refine lv_iload_n hx hb dX1_value_30 rfl (lv_at hl 2 rfl) ?_
    refine lv_iload_n hx hb dX1_value_31 rfl (lv_at hl 0 rfl) ?_
    refine z_cVi (As := [.int (rcf f (lcC f key po) 1), .int key, .int (nI (lcC f key po))]) (rest := []) ⟨hx, hb, hml, hown, hts⟩ (mX1_putBy l D dA ad H.size st jn sl sa se tk tl tr lc lr ax al mc ae n f (rcf f (lcC f key po) 1) key (lcC f key po) (by omega)) (cwV 3 hts (lw_V q939 q941 qs19 q55 q942) rfl rfl rfl (by decide +kernel) ⟨Nat.le_of_ble_eq_true rfl, Nat.le_of_ble_eq_true rfl⟩) hC hS (fun _ h => hA _ (Nat.le_trans hS.1 h)) ⟨(hP.sub (ws' := [(st, .inr (1, [.ref jn, .ref sl, .ref sa, .ref se, .int tk, .int tl, .int tr, .int lc, .int lr, .int ax])), (jn, .inr (2, [.ref al])), (al, .inr (9, [.int mc, .ref ae, .int (nI (n))]))]) [0, 1, 2] rfl), (hP2.kept hS).ro⟩ (va_recv hK hP (ci := 1) (q0 := 0) rfl rfl) rfl rfl hl.1 (Nat.le_of_ble_eq_true rfl) dX1_value_32 ⟨Nat.le_of_ble_eq_true rfl, Nat.le_of_ble_eq_true rfl⟩ (fun r_4 H locs hQ hF hS => ?_)
    have hP := va_P.ro hF hP
    obtain rfl : pvF f (rcf f (lcC f key po) 1) key (lcC f key po) = r_4 := hQ.symm
    exact z_iret (v := pvF f (rcf f (lcC f key po) 1) key (lcC f key po)) hx hb hr hS (vlC_1 c_2) (by omega) (by omega) dX1_value_35
  · have c_2 := (nI_eq (by omega) (by omega)).1 (show nI _ = nI 0 from c_2)
    refine lv_iconst (v := nI (0)) hx hb dX1_value_11 (by decide) ?_
    refine lv_goto (tgt := 35) hx hb dX1_value_12 (by decide) ?_
    exact z_iret (v := nI (0)) hx hb hr hS (vlC_0 c_2) (by omega) (by omega) dX1_value_35

set_option maxHeartbeats 4000000 in
set_option maxRecDepth 100000 in
theorem mX1_unlikeKeys (l : Launch) (D : va_G) (dA : Nat → ClassId) (ad : Nat → Nat) (sz : Nat) (st : Nat) (jn : Nat) (sl : Nat) (sa : Nat) (se : Nat) (tk : Int32) (tl : Int32) (tr : Int32) (lc : Int32) (lr : Int32) (ax : Int32) (al : Nat) (mc : Int32) (ae : Nat) (n : Nat) (f : Nat → Int32) (po : Nat) (h1 : po ≤ n) : Met l yX1_unlikeKeys (ws_ yX1_unlikeKeys cX1_unlikeKeys 4 (some .int)) ({ frames := 7, cells := 0, slots := 0, locals := 240 }) (va_Pc [.ref st, .int (nI (po))] (zP D dA ad (fun q => sz ≤ q) sz (fun H => va_P D vwCl [(st, .inr (1, [.ref jn, .ref sl, .ref sa, .ref se, .int tk, .int tl, .int tr, .int lc, .int lr, .int ax])), (jn, .inr (2, [.ref al])), (al, .inr (9, [.int mc, .ref ae, .int (nI (n))]))] H ∧ LogRA D dA (fun q => sz ≤ q) f ae n H))) (zQi (fun rz H => rz = nI (unC f po n 24)) (fun q => sz ≤ q)) (0) (0) (fun q => sz ≤ q) := by
  refine Met.ofW (cc := cX1_unlikeKeys) (maxL := 4) (ret := (some .int)) (by decide) rfl ?_
  intro p e s m args below meth c s₁ B hml hv
  obtain ⟨rfl, hsz, hC, hP⟩ := hv
  have hx := B.exec
  have hb := B.bytes
  have hr := B.returns
  have hts := atoms_spec (ws := ws_ yX1_unlikeKeys cX1_unlikeKeys 4 (some .int)) B.pre
  have hts : ∀ w ∈ lw_all, w.before _ s = true := fun w h => hts w (List.mem_cons_of_mem _ h)
  have hown : s.vm.findClass RX1 = some m.cls := findClass_of_methodNamed B.named
  have hlocks := B.notSynchronized
  subst hsz
  have hK := hC.K
  have hA : ∀ q : Nat, s.heap.size ≤ q → s.heap.size ≤ q := fun _ h => h
  have hS : va_S (fun q => s.heap.size ≤ q) s.heap s.heap [] := va_S.rf
  obtain ⟨hP, hP2⟩ := hP
  have hP : va_P D vwCl [(st, .inr (1, [.ref jn, .ref sl, .ref sa, .ref se, .int tk, .int tl, .int tr, .int lc, .int lr, .int ax])), (jn, .inr (2, [.ref al])), (al, .inr (9, [.int mc, .ref ae, .int (nI (n))]))] s.heap := hP
  have hn9 := hP2.1
  have hl := lv_entry ([.ref st, .int (nI (po))]) (n := 4) (Nat.le_of_ble_eq_true rfl)
  rw [lg_entry_eq]
  generalize (lg_sl ([.ref st, .int (nI (po))]) ++ List.replicate (4 - (lg_sl ([.ref st, .int (nI (po))])).length) Slot.unset).toArray = ls at hl ⊢
  have hl : lv_has ls 4 [(0, .ref st), (1, .int (nI (po)))] := hl
  refine lv_iconst (v := nI (0)) hx hb dX1_unlikeKeys_0 (by decide) ?_
  refine lv_istore_n (lv' := [(2, .int (nI (0))), (0, .ref st), (1, .int (nI (po)))]) hx hb dX1_unlikeKeys_1 rfl hl (by decide) rfl (fun ls hl => ?_)
  refine lv_iconst (v := nI (0)) hx hb dX1_unlikeKeys_2 (by decide) ?_
  refine lv_istore_n (lv' := [(3, .int (nI (0))), (2, .int (nI (0))), (0, .ref st), (1, .int (nI (po)))]) hx hb dX1_unlikeKeys_3 rfl hl (by decide) rfl (fun ls hl => ?_)
  refine z_loop (σ := Nat) (fun x => 24 - x) (fun x H locs ls => va_P D vwCl [(st, .inr (1, [.ref jn, .ref sl, .ref sa, .ref se, .int tk, .int tl, .int tr, .int lc, .int lr, .int ax])), (jn, .inr (2, [.ref al])), (al, .inr (9, [.int mc, .ref ae, .int (nI (n))]))] H ∧ va_S (fun q => s.heap.size ≤ q) s.heap H locs ∧ lv_has ls 4 [(0, .ref st), (1, .int (nI (po))), (2, .int (nI (unC f po n x))), (3, .int (nI (x)))] ∧ x ≤ 24) (0) ⟨hP, hS, (lv_sub (l' := [(0, .ref st), (1, .int (nI (po))), (2, .int (nI (unC f po n 0))), (3, .int (nI (0)))]) hl [2, 3, 1, 0] rfl), by omega⟩ ?_
  intro x H locs ls ⟨hP, hS, hl, hx1⟩ ih_4
  refine lv_iload_n hx hb dX1_unlikeKeys_4 rfl (lv_at hl 3 rfl) ?_
  refine lv_bipush (v := nI (24)) hx hb dX1_unlikeKeys_5 (by decide) ?_
  refine lv_icmp_ge (tgt := 45) hx hb dX1_unlikeKeys_7 (by decide) (fun c_1 => ?_) (fun c_1 => ?_)
  · have c_1 := (nI_leI (by omega) (by omega)).1 c_1
    refine lv_iload_n hx hb dX1_unlikeKeys_45 rfl (lv_at hl 2 rfl) ?_
    exact z_iret (v := nI (unC f po n x)) hx hb hr hS (by rw [show x = 24 by omega]) (by omega) (by omega) dX1_unlikeKeys_46
  · have c_1 := mt (nI_leI (by omega) (by omega)).2 c_1
    refine lv_iload_n hx hb dX1_unlikeKeys_10 rfl (lv_at hl 2 rfl) ?_
    refine lv_aload_n hx hb dX1_unlikeKeys_11 rfl (lv_at hl 0 rfl) ?_
    refine lv_iload_n hx hb dX1_unlikeKeys_12 rfl (lv_at hl 3 rfl) ?_
    refine lv_iload_n hx hb dX1_unlikeKeys_13 rfl (lv_at hl 1 rfl) ?_
    refine z_cVi (As := [.int (nI (x)), .int (nI (po))]) (rest := [.int (nI (unC f po n x))]) ⟨hx, hb, hml, hown, hts⟩ (mX1_value l D dA ad H.size st jn sl sa se tk tl tr lc lr ax al mc ae n f (nI (x)) po (by omega)) (cwV 2 hts (lw_V q957 q932 q933 q55 q934) rfl rfl rfl (by decide +kernel) ⟨Nat.le_of_ble_eq_true rfl, Nat.le_of_ble_eq_true rfl⟩) hC hS (fun _ h => hA _ (Nat.le_trans hS.1 h)) ⟨(hP.sub (ws' := [(st, .inr (1, [.ref jn, .ref sl, .ref sa, .ref se, .int tk, .int tl, .int tr, .int lc, .int lr, .int ax])), (jn, .inr (2, [.ref al])), (al, .inr (9, [.int mc, .ref ae, .int (nI (n))]))]) [0, 1, 2] rfl), (hP2.kept hS).ro⟩ (va_recv hK hP (ci := 1) (q0 := 0) rfl rfl) rfl rfl hl.1 (Nat.le_of_ble_eq_true rfl) dX1_unlikeKeys_14 ⟨Nat.le_of_ble_eq_true rfl, Nat.le_of_ble_eq_true rfl⟩ (fun r_2 H locs hQ hF hS => ?_)
    have hP := va_P.ro hF hP
    obtain rfl : vlC f (nI (x)) po = r_2 := hQ.symm
    refine lv_aload_n hx hb dX1_unlikeKeys_17 rfl (lv_at hl 0 rfl) ?_
    refine lv_iload_n hx hb dX1_unlikeKeys_18 rfl (lv_at hl 3 rfl) ?_
    refine lv_aload_n hx hb dX1_unlikeKeys_19 rfl (lv_at hl 0 rfl) ?_
    refine va_get (D := D) (ci := 1) (v := .ref jn) (C := RX1) (T := TX1) (N := 10) hx hb hts in_X1 hown hK hP 0 rfl rfl 0 (by decide) (hts _ q192) (fun _ h9 => h9) rfl dX1_unlikeKeys_20 ?_
    refine z_cVi (As := []) (rest := [.int (nI (x)), .ref st, .int (vlC f (nI (x)) po), .int (nI (unC f po n x))]) ⟨hx, hb, hml, hown, hts⟩ (mX2_size l D dA ad H.size jn al mc ae n) (cwV 0 hts (lw_V q636 q637 q638 q56 q639) rfl rfl rfl (by decide +kernel) ⟨Nat.le_of_ble_eq_true rfl, Nat.le_of_ble_eq_true rfl⟩) hC hS (fun _ h => hA _ (Nat.le_trans hS.1 h)) (hP.sub (ws' := [(jn, .inr (2, [.ref al])), (al, .inr (9, [.int mc, .ref ae, .int (nI (n))]))]) [1, 2] rfl) (va_recv hK hP (ci := 2) (q0 := 1) rfl rfl) rfl rfl hl.1 (Nat.le_of_ble_eq_true rfl) dX1_unlikeKeys_23 ⟨Nat.le_of_ble_eq_true rfl, Nat.le_of_ble_eq_true rfl⟩ (fun r_3 H locs hQ hF hS => ?_)
    have hP := va_P.ro hF hP
    obtain rfl : nI (n) = r_3 := hQ.symm
    refine z_cVi (As := [.int (nI (x)), .int (nI (n))]) (rest := [.int (vlC f (nI (x)) po), .int (nI (unC f po n x))]) ⟨hx, hb, hml, hown, hts⟩ (mX1_value l D dA ad H.size st jn sl sa se tk tl tr lc lr ax al mc ae n f (nI (x)) n (by omega)) (cwV 2 hts (lw_V q957 q932 q933 q55 q934) rfl rfl rfl (by decide +kernel) ⟨Nat.le_of_ble_eq_true rfl, Nat.le_of_ble_eq_true rfl⟩) hC hS (fun _ h => hA _ (Nat.le_trans hS.1 h)) ⟨(hP.sub (ws' := [(st, .inr (1, [.ref jn, .ref sl, .ref sa, .ref se, .int tk, .int tl, .int tr, .int lc, .int lr, .int ax])), (jn, .inr (2, [.ref al])), (al, .inr (9, [.int mc, .ref ae, .int (nI (n))]))]) [0, 1, 2] rfl), (hP2.kept hS).ro⟩ (va_recv hK hP (ci := 1) (q0 := 0) rfl rfl) rfl rfl hl.1 (Nat.le_of_ble_eq_true rfl) dX1_unlikeKeys_26 ⟨Nat.le_of_ble_eq_true rfl, Nat.le_of_ble_eq_true rfl⟩ (fun r_4 H locs hQ hF hS => ?_)
    have hP := va_P.ro hF hP
    obtain rfl : vlC f (nI (x)) n = r_4 := hQ.symm
    refine lv_icmp_ne (tgt := 36) hx hb dX1_unlikeKeys_29 (by decide) (fun c_5 => ?_) (fun c_5 => ?_)
    · refine lv_iconst (v := nI (1)) hx hb dX1_unlikeKeys_36 (by decide) ?_
      refine lv_iadd hx hb dX1_unlikeKeys_37 ?_
      refine lv_tope (y := nI ((unC f po n x) + 1)) (nI_add _ _) ?_
      refine lv_istore_n (lv' := [(2, .int (nI ((unC f po n x) + 1))), (0, .ref st), (1, .int (nI (po))), (3, .int (nI (x)))]) hx hb dX1_unlikeKeys_38 rfl hl (by decide) rfl (fun ls hl => ?_)
      refine lv_iinc (v := nI (x + 1)) (lv' := [(3, .int (nI (x + 1))), (2, .int (nI ((unC f po n x) + 1))), (0, .ref st), (1, .int (nI (po)))]) hx hb dX1_unlikeKeys_39 hl (k := 3) rfl (nI_add _ _) (by decide) rfl (fun ls hl => ?_)
      refine lv_goto (tgt := 4) hx hb dX1_unlikeKeys_42 (by decide) ?_
      exact ih_4 (x + 1) H locs ls ⟨(hP.sub [0, 1, 2] rfl), hS, (lv_sub (l' := [(0, .ref st), (1, .int (nI (po))), (2, .int (nI (unC f po n (x + 1)))), (3, .int (nI ((x + 1))))]) hl [2, 3, 1, 0] (by rw [unC_f c_5]; rfl)), by omega⟩ (by omega)
    · refine lv_iconst (v := nI (0)) hx hb dX1_unlikeKeys_32 (by decide) ?_
      refine lv_goto (tgt := 37) hx hb dX1_unlikeKeys_33 (by decide) ?_
      refine lv_iadd hx hb dX1_unlikeKeys_37 ?_
      refine lv_tope (y := nI ((unC f po n x) + 0)) (nI_add _ _) ?_
      refine lv_istore_n (lv' := [(2, .int (nI ((unC f po n x) + 0))), (0, .ref st), (1, .int (nI (po))), (3, .int (nI (x)))]) hx hb dX1_unlikeKeys_38 rfl hl (by decide) rfl (fun ls hl => ?_)
      refine lv_iinc (v := nI (x + 1)) (lv' := [(3, .int (nI (x + 1))), (2, .int (nI ((unC f po n x) + 0))), (0, .ref st), (1, .int (nI (po)))]) hx hb dX1_unlikeKeys_39 hl (k := 3) rfl (nI_add _ _) (by decide) rfl (fun ls hl => ?_)
      refine lv_goto (tgt := 4) hx hb dX1_unlikeKeys_42 (by decide) ?_
      exact ih_4 (x + 1) H locs ls ⟨(hP.sub [0, 1, 2] rfl), hS, (lv_sub (l' := [(0, .ref st), (1, .int (nI (po))), (2, .int (nI (unC f po n (x + 1)))), (3, .int (nI ((x + 1))))]) hl [2, 3, 1, 0] (by rw [unC_t c_5]; rfl)), by omega⟩ (by omega)

set_option maxHeartbeats 4000000 in
set_option maxRecDepth 100000 in
theorem mX1_seenByA (l : Launch) (D : va_G) (dA : Nat → ClassId) (ad : Nat → Nat) (sz : Nat) (st : Nat) (jn : Nat) (sl : Nat) (sa : Nat) (se : Nat) (tk : Int32) (tl : Int32) (tr : Int32) (lc : Int32) (lr : Int32) (ax : Int32) (al : Nat) (mc : Int32) (ae : Nat) (n : Nat) (f : Nat → Int32) (key : Int32) : Met l yX1_seenBy (ws_ yX1_seenBy cX1_seenBy 4 (some .int)) ({ frames := 7, cells := 0, slots := 0, locals := 230 }) (va_Pc [.ref st, .int (-1), .int key] (zP D dA ad (fun q => sz ≤ q) sz (fun H => va_P D vwCl [(st, .inr (1, [.ref jn, .ref sl, .ref sa, .ref se, .int tk, .int tl, .int tr, .int lc, .int lr, .int ax])), (jn, .inr (2, [.ref al])), (al, .inr (9, [.int mc, .ref ae, .int (nI (n))]))] H ∧ LogRA D dA (fun q => sz ≤ q) f ae n H))) (zQi (fun rz H => rz = vlC f key n) (fun q => sz ≤ q)) (0) (0) (fun q => sz ≤ q) := by
  refine Met.ofW (cc := cX1_seenBy) (maxL := 4) (ret := (some .int)) (by decide) rfl ?_
  intro p e s m args below meth c s₁ B hml hv
  obtain ⟨rfl, hsz, hC, hP⟩ := hv
  have hx := B.exec
  have hb := B.bytes
  have hr := B.returns
  have hts := atoms_spec (ws := ws_ yX1_seenBy cX1_seenBy 4 (some .int)) B.pre
  have hts : ∀ w ∈ lw_all, w.before _ s = true := fun w h => hts w (List.mem_cons_of_mem _ h)
  have hown : s.vm.findClass RX1 = some m.cls := findClass_of_methodNamed B.named
  have hlocks := B.notSynchronized
  subst hsz
  have hK := hC.K
  have hA : ∀ q : Nat, s.heap.size ≤ q → s.heap.size ≤ q := fun _ h => h
  have hS : va_S (fun q => s.heap.size ≤ q) s.heap s.heap [] := va_S.rf
  obtain ⟨hP, hP2⟩ := hP
  have hP : va_P D vwCl [(st, .inr (1, [.ref jn, .ref sl, .ref sa, .ref se, .int tk, .int tl, .int tr, .int lc, .int lr, .int ax])), (jn, .inr (2, [.ref al])), (al, .inr (9, [.int mc, .ref ae, .int (nI (n))]))] s.heap := hP
  have hn9 := hP2.1
  have hl := lv_entry ([.ref st, .int (-1), .int key]) (n := 4) (Nat.le_of_ble_eq_true rfl)
  rw [lg_entry_eq]
  generalize (lg_sl ([.ref st, .int (-1), .int key]) ++ List.replicate (4 - (lg_sl ([.ref st, .int (-1), .int key])).length) Slot.unset).toArray = ls at hl ⊢
  have hl : lv_has ls 4 [(0, .ref st), (1, .int (-1)), (2, .int key)] := hl
  refine lv_iload_n hx hb dX1_seenBy_0 rfl (lv_at hl 1 rfl) ?_
  refine lv_iconst (v := (-1)) hx hb dX1_seenBy_1 (by decide) ?_
  refine lv_icmp_ne (tgt := 9) hx hb dX1_seenBy_2 (by decide) (fun c_1 => ?_) (fun c_1 => ?_)
  · exact absurd rfl c_1
  · refine lv_iconst (v := (-1)) hx hb dX1_seenBy_5 (by decide) ?_
    refine lv_goto (tgt := 27) hx hb dX1_seenBy_6 (by decide) ?_
    refine lv_istore_n (lv' := [(3, .int (-1)), (0, .ref st), (1, .int (-1)), (2, .int key)]) hx hb dX1_seenBy_27 rfl hl (by decide) rfl (fun ls hl => ?_)
    refine lv_iload_n hx hb dX1_seenBy_28 rfl (lv_at hl 0 rfl) ?_
    refine lv_iconst (v := (-1)) hx hb dX1_seenBy_29 (by decide) ?_
    refine lv_icmp_ne (tgt := 48) hx hb dX1_seenBy_30 (by decide) (fun c_2 => ?_) (fun c_2 => ?_)
    · exact absurd rfl c_2
    · refine lv_aload_n hx hb dX1_seenBy_33 rfl (lv_at hl 1 rfl) ?_
      refine lv_iload_n hx hb dX1_seenBy_34 rfl (lv_at hl 3 rfl) ?_
      refine lv_aload_n hx hb dX1_seenBy_35 rfl (lv_at hl 1 rfl) ?_
      refine va_get (D := D) (ci := 1) (v := .ref jn) (C := RX1) (T := TX1) (N := 10) hx hb hts in_X1 hown hK hP 0 rfl rfl 0 (by decide) (hts _ q192) (fun _ h9 => h9) rfl dX1_seenBy_36 ?_
      refine z_cVi (As := []) (rest := [.int key, .ref st]) ⟨hx, hb, hml, hown, hts⟩ (mX2_size l D dA ad s.heap.size jn al mc ae n) (cwV 0 hts (lw_V q636 q637 q638 q56 q639) rfl rfl rfl (by decide +kernel) ⟨Nat.le_of_ble_eq_true rfl, Nat.le_of_ble_eq_true rfl⟩) hC hS (fun _ h => hA _ (Nat.le_trans hS.1 h)) (hP.sub (ws' := [(jn, .inr (2, [.ref al])), (al, .inr (9, [.int mc, .ref ae, .int (nI (n))]))]) [1, 2] rfl) (va_recv hK hP (ci := 2) (q0 := 1) rfl rfl) rfl rfl hl.1 (Nat.le_of_ble_eq_true rfl) dX1_seenBy_39 ⟨Nat.le_of_ble_eq_true rfl, Nat.le_of_ble_eq_true rfl⟩ (fun r_3 H locs hQ hF hS => ?_)
      have hP := va_P.ro hF hP
      obtain rfl : nI (n) = r_3 := hQ.symm
      refine z_cVi (As := [.int key, .int (nI (n))]) (rest := []) ⟨hx, hb, hml, hown, hts⟩ (mX1_value l D dA ad H.size st jn sl sa se tk tl tr lc lr ax al mc ae n f key n (by omega)) (cwV 2 hts (lw_V q957 q932 q933 q55 q934) rfl rfl rfl (by decide +kernel) ⟨Nat.le_of_ble_eq_true rfl, Nat.le_of_ble_eq_true rfl⟩) hC hS (fun _ h => hA _ (Nat.le_trans hS.1 h)) ⟨(hP.sub (ws' := [(st, .inr (1, [.ref jn, .ref sl, .ref sa, .ref se, .int tk, .int tl, .int tr, .int lc, .int lr, .int ax])), (jn, .inr (2, [.ref al])), (al, .inr (9, [.int mc, .ref ae, .int (nI (n))]))]) [0, 1, 2] rfl), (hP2.kept hS).ro⟩ (va_recv hK hP (ci := 1) (q0 := 0) rfl rfl) rfl rfl hl.1 (Nat.le_of_ble_eq_true rfl) dX1_seenBy_42 ⟨Nat.le_of_ble_eq_true rfl, Nat.le_of_ble_eq_true rfl⟩ (fun r_4 H locs hQ hF hS => ?_)
      have hP := va_P.ro hF hP
      obtain rfl : vlC f key n = r_4 := hQ.symm
      refine lv_goto (tgt := 49) hx hb dX1_seenBy_45 (by decide) ?_
      exact z_iret (v := vlC f key n) hx hb hr hS (rfl) (by omega) (by omega) dX1_seenBy_49

set_option maxHeartbeats 4000000 in
set_option maxRecDepth 100000 in
theorem mX1_seenByB (l : Launch) (D : va_G) (dA : Nat → ClassId) (ad : Nat → Nat) (sz : Nat) (st : Nat) (jn : Nat) (sl : Nat) (sa : Nat) (se : Nat) (tk : Int32) (tl : Int32) (tr : Int32) (lc : Int32) (lr : Int32) (ax : Int32) (al : Nat) (mc : Int32) (ae : Nat) (n : Nat) (f : Nat → Int32) (slg : Nat → Int32) (j : Nat) (key : Int32) (h1 : j ≤ 2) : Met l yX1_seenBy (ws_ yX1_seenBy cX1_seenBy 4 (some .int)) ({ frames := 7, cells := 0, slots := 0, locals := 230 }) (va_Pc [.ref st, .int (nI (j)), .int key] (zP D dA ad (fun q => sz ≤ q) sz (fun H => va_P D vwCl [(st, .inr (1, [.ref jn, .ref sl, .ref sa, .ref se, .int tk, .int tl, .int tr, .int lc, .int lr, .int ax])), (jn, .inr (2, [.ref al])), (al, .inr (9, [.int mc, .ref ae, .int (nI (n))])), (sl, .inl (dA 0, 3, .inl slg))] H ∧ LogRA D dA (fun q => sz ≤ q) f ae n H))) (zQi (fun rz H => rz = seC f (slg j) key n) (fun q => sz ≤ q)) (0) (0) (fun q => sz ≤ q) := by
  refine Met.ofW (cc := cX1_seenBy) (maxL := 4) (ret := (some .int)) (by decide) rfl ?_
  intro p e s m args below meth c s₁ B hml hv
  obtain ⟨rfl, hsz, hC, hP⟩ := hv
  have hx := B.exec
  have hb := B.bytes
  have hr := B.returns
  have hts := atoms_spec (ws := ws_ yX1_seenBy cX1_seenBy 4 (some .int)) B.pre
  have hts : ∀ w ∈ lw_all, w.before _ s = true := fun w h => hts w (List.mem_cons_of_mem _ h)
  have hown : s.vm.findClass RX1 = some m.cls := findClass_of_methodNamed B.named
  have hlocks := B.notSynchronized
  subst hsz
  have hK := hC.K
  have hA : ∀ q : Nat, s.heap.size ≤ q → s.heap.size ≤ q := fun _ h => h
  have hS : va_S (fun q => s.heap.size ≤ q) s.heap s.heap [] := va_S.rf
  obtain ⟨hP, hP2⟩ := hP
  have hP : va_P D vwCl [(st, .inr (1, [.ref jn, .ref sl, .ref sa, .ref se, .int tk, .int tl, .int tr, .int lc, .int lr, .int ax])), (jn, .inr (2, [.ref al])), (al, .inr (9, [.int mc, .ref ae, .int (nI (n))])), (sl, .inl (dA 0, 3, .inl slg))] s.heap := hP
  have hn9 := hP2.1
  have hl := lv_entry ([.ref st, .int (nI (j)), .int key]) (n := 4) (Nat.le_of_ble_eq_true rfl)
  rw [lg_entry_eq]
  generalize (lg_sl ([.ref st, .int (nI (j)), .int key]) ++ List.replicate (4 - (lg_sl ([.ref st, .int (nI (j)), .int key])).length) Slot.unset).toArray = ls at hl ⊢
  have hl : lv_has ls 4 [(0, .ref st), (1, .int (nI (j))), (2, .int key)] := hl
  refine lv_iload_n hx hb dX1_seenBy_0 rfl (lv_at hl 1 rfl) ?_
  refine lv_iconst (v := (-1)) hx hb dX1_seenBy_1 (by decide) ?_
  refine lv_icmp_ne (tgt := 9) hx hb dX1_seenBy_2 (by decide) (fun c_1 => ?_) (fun c_1 => ?_)
  · refine lv_aload_n hx hb dX1_seenBy_9 rfl (lv_at hl 0 rfl) ?_
    refine lv_aload_n hx hb dX1_seenBy_10 rfl (lv_at hl 0 rfl) ?_
    refine va_get (D := D) (ci := 1) (v := .ref sl) (C := RX1) (T := TX1) (N := 10) hx hb hts in_X1 hown hK hP 0 rfl rfl 1 (by decide) (hts _ q194) (fun _ h9 => h9) rfl dX1_seenBy_11 ?_
    refine lv_iload_n hx hb dX1_seenBy_14 rfl (lv_at hl 1 rfl) ?_
    refine va_iald hx hb hK hP 3 0 rfl rfl (vp_in_nI (by omega) (by omega)) dX1_seenBy_15 ?_
    refine lv_tope (y := slg j) (by rw [nI_clamp (by omega)]) ?_
    refine lv_iload_n hx hb dX1_seenBy_16 rfl (lv_at hl 2 rfl) ?_
    refine lv_aload_n hx hb dX1_seenBy_17 rfl (lv_at hl 0 rfl) ?_
    refine va_get (D := D) (ci := 1) (v := .ref jn) (C := RX1) (T := TX1) (N := 10) hx hb hts in_X1 hown hK hP 0 rfl rfl 0 (by decide) (hts _ q192) (fun _ h9 => h9) rfl dX1_seenBy_18 ?_
    refine z_cVi (As := []) (rest := [.int key, .int (slg j), .ref st]) ⟨hx, hb, hml, hown, hts⟩ (mX2_size l D dA ad s.heap.size jn al mc ae n) (cwV 0 hts (lw_V q636 q637 q638 q56 q639) rfl rfl rfl (by decide +kernel) ⟨Nat.le_of_ble_eq_true rfl, Nat.le_of_ble_eq_true rfl⟩) hC hS (fun _ h => hA _ (Nat.le_trans hS.1 h)) (hP.sub (ws' := [(jn, .inr (2, [.ref al])), (al, .inr (9, [.int mc, .ref ae, .int (nI (n))]))]) [1, 2] rfl) (va_recv hK hP (ci := 2) (q0 := 1) rfl rfl) rfl rfl hl.1 (Nat.le_of_ble_eq_true rfl) dX1_seenBy_21 ⟨Nat.le_of_ble_eq_true rfl, Nat.le_of_ble_eq_true rfl⟩ (fun r_2 H locs hQ hF hS => ?_)
    have hP := va_P.ro hF hP
    obtain rfl : nI (n) = r_2 := hQ.symm
    refine z_cVi (As := [.int (slg j), .int key, .int (nI (n))]) (rest := []) ⟨hx, hb, hml, hown, hts⟩ (mX1_putBy l D dA ad H.size st jn sl sa se tk tl tr lc lr ax al mc ae n f (slg j) key n (by omega)) (cwV 3 hts (lw_V q939 q941 qs19 q55 q942) rfl rfl rfl (by decide +kernel) ⟨Nat.le_of_ble_eq_true rfl, Nat.le_of_ble_eq_true rfl⟩) hC hS (fun _ h => hA _ (Nat.le_trans hS.1 h)) ⟨(hP.sub (ws' := [(st, .inr (1, [.ref jn, .ref sl, .ref sa, .ref se, .int tk, .int tl, .int tr, .int lc, .int lr, .int ax])), (jn, .inr (2, [.ref al])), (al, .inr (9, [.int mc, .ref ae, .int (nI (n))]))]) [0, 1, 2] rfl), (hP2.kept hS).ro⟩ (va_recv hK hP (ci := 1) (q0 := 0) rfl rfl) rfl rfl hl.1 (Nat.le_of_ble_eq_true rfl) dX1_seenBy_24 ⟨Nat.le_of_ble_eq_true rfl, Nat.le_of_ble_eq_true rfl⟩ (fun r_3 H locs hQ hF hS => ?_)
    have hP := va_P.ro hF hP
    obtain rfl : pvF f (slg j) key n = r_3 := hQ.symm
    refine lv_istore_n (lv' := [(3, .int (pvF f (slg j) key n)), (0, .ref st), (1, .int (nI (j))), (2, .int key)]) hx hb dX1_seenBy_27 rfl hl (by decide) rfl (fun ls hl => ?_)
    refine lv_iload_n hx hb dX1_seenBy_28 rfl (lv_at hl 0 rfl) ?_
    refine lv_iconst (v := (-1)) hx hb dX1_seenBy_29 (by decide) ?_
    refine lv_icmp_ne (tgt := 48) hx hb dX1_seenBy_30 (by decide) (fun c_4 => ?_) (fun c_4 => ?_)
    · refine lv_iload_n hx hb dX1_seenBy_48 rfl (lv_at hl 0 rfl) ?_
      exact z_iret (v := pvF f (slg j) key n) hx hb hr hS (by unfold seC; rw [if_neg c_4]) (by omega) (by omega) dX1_seenBy_49
    · refine lv_aload_n hx hb dX1_seenBy_33 rfl (lv_at hl 1 rfl) ?_
      refine lv_iload_n hx hb dX1_seenBy_34 rfl (lv_at hl 3 rfl) ?_
      refine lv_aload_n hx hb dX1_seenBy_35 rfl (lv_at hl 1 rfl) ?_
      refine va_get (D := D) (ci := 1) (v := .ref jn) (C := RX1) (T := TX1) (N := 10) hx hb hts in_X1 hown hK hP 0 rfl rfl 0 (by decide) (hts _ q192) (fun _ h9 => h9) rfl dX1_seenBy_36 ?_
      refine z_cVi (As := []) (rest := [.int key, .ref st]) ⟨hx, hb, hml, hown, hts⟩ (mX2_size l D dA ad H.size jn al mc ae n) (cwV 0 hts (lw_V q636 q637 q638 q56 q639) rfl rfl rfl (by decide +kernel) ⟨Nat.le_of_ble_eq_true rfl, Nat.le_of_ble_eq_true rfl⟩) hC hS (fun _ h => hA _ (Nat.le_trans hS.1 h)) (hP.sub (ws' := [(jn, .inr (2, [.ref al])), (al, .inr (9, [.int mc, .ref ae, .int (nI (n))]))]) [1, 2] rfl) (va_recv hK hP (ci := 2) (q0 := 1) rfl rfl) rfl rfl hl.1 (Nat.le_of_ble_eq_true rfl) dX1_seenBy_39 ⟨Nat.le_of_ble_eq_true rfl, Nat.le_of_ble_eq_true rfl⟩ (fun r_5 H locs hQ hF hS => ?_)
      have hP := va_P.ro hF hP
      obtain rfl : nI (n) = r_5 := hQ.symm
      refine z_cVi (As := [.int key, .int (nI (n))]) (rest := []) ⟨hx, hb, hml, hown, hts⟩ (mX1_value l D dA ad H.size st jn sl sa se tk tl tr lc lr ax al mc ae n f key n (by omega)) (cwV 2 hts (lw_V q957 q932 q933 q55 q934) rfl rfl rfl (by decide +kernel) ⟨Nat.le_of_ble_eq_true rfl, Nat.le_of_ble_eq_true rfl⟩) hC hS (fun _ h => hA _ (Nat.le_trans hS.1 h)) ⟨(hP.sub (ws' := [(st, .inr (1, [.ref jn, .ref sl, .ref sa, .ref se, .int tk, .int tl, .int tr, .int lc, .int lr, .int ax])), (jn, .inr (2, [.ref al])), (al, .inr (9, [.int mc, .ref ae, .int (nI (n))]))]) [0, 1, 2] rfl), (hP2.kept hS).ro⟩ (va_recv hK hP (ci := 1) (q0 := 0) rfl rfl) rfl rfl hl.1 (Nat.le_of_ble_eq_true rfl) dX1_seenBy_42 ⟨Nat.le_of_ble_eq_true rfl, Nat.le_of_ble_eq_true rfl⟩ (fun r_6 H locs hQ hF hS => ?_)
      have hP := va_P.ro hF hP
      obtain rfl : vlC f key n = r_6 := hQ.symm
      refine lv_goto (tgt := 49) hx hb dX1_seenBy_45 (by decide) ?_
      exact z_iret (v := vlC f key n) hx hb hr hS (by unfold seC; rw [if_pos c_4]) (by omega) (by omega) dX1_seenBy_49
  · exact absurd c_1 (nI_ne1 (by omega))

set_option maxHeartbeats 4000000 in
set_option maxRecDepth 100000 in
theorem mX1_puts_2 (l : Launch) (D : va_G) (dA : Nat → ClassId) (ad : Nat → Nat) (sz : Nat) (st : Nat) (jn : Nat) (sl : Nat) (sa : Nat) (se : Nat) (tk : Int32) (tl : Int32) (tr : Int32) (lc : Int32) (lr : Int32) (ax : Int32) (al : Nat) (mc : Int32) (ae : Nat) (n : Nat) (f : Nat → Int32) (slg : Nat → Int32) (j : Nat) (h1 : j ≤ 2) : Met l yX1_puts_2 (ws_ yX1_puts_2 cX1_puts_2 4 (some .int)) ({ frames := 4, cells := 0, slots := 0, locals := 130 }) (va_Pc [.ref st, .int (nI (j))] (zP D dA ad (fun q => sz ≤ q) sz (fun H => va_P D vwCl [(st, .inr (1, [.ref jn, .ref sl, .ref sa, .ref se, .int tk, .int tl, .int tr, .int lc, .int lr, .int ax])), (jn, .inr (2, [.ref al])), (al, .inr (9, [.int mc, .ref ae, .int (nI (n))])), (sl, .inl (dA 0, 3, .inl slg))] H ∧ LogRA D dA (fun q => sz ≤ q) f ae n H))) (zQi (fun rz H => rz = nI (putsOf f (slg j) n)) (fun q => sz ≤ q)) (0) (0) (fun q => sz ≤ q) := by
  refine Met.ofW (cc := cX1_puts_2) (maxL := 4) (ret := (some .int)) (by decide) rfl ?_
  intro p e s m args below meth c s₁ B hml hv
  obtain ⟨rfl, hsz, hC, hP⟩ := hv
  have hx := B.exec
  have hb := B.bytes
  have hr := B.returns
  have hts := atoms_spec (ws := ws_ yX1_puts_2 cX1_puts_2 4 (some .int)) B.pre
  have hts : ∀ w ∈ lw_all, w.before _ s = true := fun w h => hts w (List.mem_cons_of_mem _ h)
  have hown : s.vm.findClass RX1 = some m.cls := findClass_of_methodNamed B.named
  have hlocks := B.notSynchronized
  subst hsz
  have hK := hC.K
  have hA : ∀ q : Nat, s.heap.size ≤ q → s.heap.size ≤ q := fun _ h => h
  have hS : va_S (fun q => s.heap.size ≤ q) s.heap s.heap [] := va_S.rf
  obtain ⟨hP, hP2⟩ := hP
  have hP : va_P D vwCl [(st, .inr (1, [.ref jn, .ref sl, .ref sa, .ref se, .int tk, .int tl, .int tr, .int lc, .int lr, .int ax])), (jn, .inr (2, [.ref al])), (al, .inr (9, [.int mc, .ref ae, .int (nI (n))])), (sl, .inl (dA 0, 3, .inl slg))] s.heap := hP
  have hn9 := hP2.1
  have hl := lv_entry ([.ref st, .int (nI (j))]) (n := 4) (Nat.le_of_ble_eq_true rfl)
  rw [lg_entry_eq]
  generalize (lg_sl ([.ref st, .int (nI (j))]) ++ List.replicate (4 - (lg_sl ([.ref st, .int (nI (j))])).length) Slot.unset).toArray = ls at hl ⊢
  have hl : lv_has ls 4 [(0, .ref st), (1, .int (nI (j)))] := hl
  refine lv_iconst (v := nI (0)) hx hb dX1_puts_2_0 (by decide) ?_
  refine lv_istore_n (lv' := [(2, .int (nI (0))), (0, .ref st), (1, .int (nI (j)))]) hx hb dX1_puts_2_1 rfl hl (by decide) rfl (fun ls hl => ?_)
  refine lv_iconst (v := nI (1)) hx hb dX1_puts_2_2 (by decide) ?_
  refine lv_istore_n (lv' := [(3, .int (nI (1))), (2, .int (nI (0))), (0, .ref st), (1, .int (nI (j)))]) hx hb dX1_puts_2_3 rfl hl (by decide) rfl (fun ls hl => ?_)
  refine z_loop (σ := Nat) (fun x => n - x) (fun x H locs ls => va_P D vwCl [(st, .inr (1, [.ref jn, .ref sl, .ref sa, .ref se, .int tk, .int tl, .int tr, .int lc, .int lr, .int ax])), (jn, .inr (2, [.ref al])), (al, .inr (9, [.int mc, .ref ae, .int (nI (n))])), (sl, .inl (dA 0, 3, .inl slg))] H ∧ va_S (fun q => s.heap.size ≤ q) s.heap H locs ∧ lv_has ls 4 [(0, .ref st), (1, .int (nI (j))), (2, .int (nI (putsOf f (slg j) x))), (3, .int (nI (x + 1)))] ∧ x ≤ n) (0) ⟨hP, hS, (lv_sub (l' := [(0, .ref st), (1, .int (nI (j))), (2, .int (nI (putsOf f (slg j) 0))), (3, .int (nI (0 + 1)))]) hl [2, 3, 1, 0] rfl), by omega⟩ ?_
  intro x H locs ls ⟨hP, hS, hl, hx1⟩ ih_4
  refine lv_iload_n hx hb dX1_puts_2_4 rfl (lv_at hl 3 rfl) ?_
  refine lv_aload_n hx hb dX1_puts_2_5 rfl (lv_at hl 0 rfl) ?_
  refine va_get (D := D) (ci := 1) (v := .ref jn) (C := RX1) (T := TX1) (N := 10) hx hb hts in_X1 hown hK hP 0 rfl rfl 0 (by decide) (hts _ q192) (fun _ h9 => h9) rfl dX1_puts_2_6 ?_
  refine z_cVi (As := []) (rest := [.int (nI (x + 1))]) ⟨hx, hb, hml, hown, hts⟩ (mX2_size l D dA ad H.size jn al mc ae n) (cwV 0 hts (lw_V q636 q637 q638 q56 q639) rfl rfl rfl (by decide +kernel) ⟨Nat.le_of_ble_eq_true rfl, Nat.le_of_ble_eq_true rfl⟩) hC hS (fun _ h => hA _ (Nat.le_trans hS.1 h)) (hP.sub (ws' := [(jn, .inr (2, [.ref al])), (al, .inr (9, [.int mc, .ref ae, .int (nI (n))]))]) [1, 2] rfl) (va_recv hK hP (ci := 2) (q0 := 1) rfl rfl) rfl rfl hl.1 (Nat.le_of_ble_eq_true rfl) dX1_puts_2_9 ⟨Nat.le_of_ble_eq_true rfl, Nat.le_of_ble_eq_true rfl⟩ (fun r_1 H locs hQ hF hS => ?_)
  have hP := va_P.ro hF hP
  obtain rfl : nI (n) = r_1 := hQ.symm
  refine lv_icmp_gt (tgt := 53) hx hb dX1_puts_2_12 (by decide) (fun c_2 => ?_) (fun c_2 => ?_)
  · have c_2 := (nI_ltI (by omega) (by omega)).1 c_2
    refine lv_iload_n hx hb dX1_puts_2_53 rfl (lv_at hl 2 rfl) ?_
    exact z_iret (v := nI (putsOf f (slg j) x)) hx hb hr hS (by rw [show n = x by omega]) (by omega) (by omega) dX1_puts_2_54
  · have c_2 := mt (nI_ltI (by omega) (by omega)).2 c_2
    refine lv_iload_n hx hb dX1_puts_2_15 rfl (lv_at hl 2 rfl) ?_
    refine lv_aload_n hx hb dX1_puts_2_16 rfl (lv_at hl 0 rfl) ?_
    refine va_get (D := D) (ci := 1) (v := .ref jn) (C := RX1) (T := TX1) (N := 10) hx hb hts in_X1 hown hK hP 0 rfl rfl 0 (by decide) (hts _ q192) (fun _ h9 => h9) rfl dX1_puts_2_17 ?_
    refine lv_iload_n hx hb dX1_puts_2_20 rfl (lv_at hl 3 rfl) ?_
    obtain ⟨y9, cap9, g9, hc9, hd9, hE9, hy9, hN9, hV9⟩ := (hP2.kept hS).ro.at (r := x + 1) (by omega) (by omega)
    have hP := (hP.app (va_P1 hE9)).app (va_P1 hN9)
    have hP : va_P D vwCl [(st, .inr (1, [.ref jn, .ref sl, .ref sa, .ref se, .int tk, .int tl, .int tr, .int lc, .int lr, .int ax])), (jn, .inr (2, [.ref al])), (al, .inr (9, [.int mc, .ref ae, .int (nI (n))])), (sl, .inl (dA 0, 3, .inl slg)), (ae, .inl (dA 3, cap9, .inr (.inr (.inr (.inr g9))))), (y9, .inr (6, [.int (rcf f (x + 1) 0), .int (rcf f (x + 1) 1), .int (nfF f (x + 1) 2), .int (nfF f (x + 1) 3), .int (rcf f (x + 1) 4)]))] H := hP
    refine z_cVr (As := [.int (nI (x + 1))]) (rest := [.int (nI (putsOf f (slg j) x))]) ⟨hx, hb, hml, hown, hts⟩ (mX2_at l D dA ad H.size jn al mc ae n cap9 g9 (x + 1) y9 (by omega) (by omega) (hc9) (by omega) (hy9)) (cwV 1 hts (lw_V q731 q732 q733 q56 q734) rfl rfl rfl (by decide +kernel) ⟨Nat.le_of_ble_eq_true rfl, Nat.le_of_ble_eq_true rfl⟩) hC hS (fun _ h => hA _ (Nat.le_trans hS.1 h)) ⟨(hP.sub (ws' := [(jn, .inr (2, [.ref al])), (al, .inr (9, [.int mc, .ref ae, .int (nI (n))])), (ae, .inl (dA 3, cap9, .inr (.inr (.inr (.inr g9)))))]) [1, 2, 4] rfl), hV9⟩ (va_recv hK hP (ci := 2) (q0 := 1) rfl rfl) rfl rfl hl.1 (Nat.le_of_ble_eq_true rfl) dX1_puts_2_21 ⟨Nat.le_of_ble_eq_true rfl, Nat.le_of_ble_eq_true rfl⟩ (fun r_3 H locs hQ hF hS => ?_)
    have hP := va_P.ro hF hP
    obtain rfl : y9 = r_3 := hQ.symm
    refine va_castE hx hb hown (hts _ q645) (va_recv hK hP (ci := 6) (q0 := 5) rfl rfl) dX1_puts_2_24 ?_
    refine lv_iconst (v := nI (0)) hx hb dX1_puts_2_27 (by decide) ?_
    refine lv_aload_n hx hb dX1_puts_2_28 rfl (lv_at hl 0 rfl) ?_
    refine va_get (D := D) (ci := 1) (v := .ref sl) (C := RX1) (T := TX1) (N := 10) hx hb hts in_X1 hown hK hP 0 rfl rfl 1 (by decide) (hts _ q194) (fun _ h9 => h9) rfl dX1_puts_2_29 ?_
    refine lv_iload_n hx hb dX1_puts_2_32 rfl (lv_at hl 1 rfl) ?_
    refine va_iald hx hb hK hP 3 0 rfl rfl (vp_in_nI (by omega) (by omega)) dX1_puts_2_33 ?_
    refine lv_tope (y := slg j) (by rw [nI_clamp (by omega)]) ?_
    refine z_cVi (As := [.int (nI (0)), .int (slg j)]) (rest := [.int (nI (putsOf f (slg j) x))]) ⟨hx, hb, hml, hown, hts⟩ (mX6_isOf l D dA ad H.size y9 (rcf f (x + 1) 0) (rcf f (x + 1) 1) (nfF f (x + 1) 2) (nfF f (x + 1) 3) (rcf f (x + 1) 4) (nI (0)) (slg j)) (cwV 2 hts (lw_V q943 q944 q945 q79 q946) rfl rfl rfl (by decide +kernel) ⟨Nat.le_of_ble_eq_true rfl, Nat.le_of_ble_eq_true rfl⟩) hC hS (fun _ h => hA _ (Nat.le_trans hS.1 h)) (hP.sub (ws' := [(y9, .inr (6, [.int (rcf f (x + 1) 0), .int (rcf f (x + 1) 1), .int (nfF f (x + 1) 2), .int (nfF f (x + 1) 3), .int (rcf f (x + 1) 4)]))]) [5] rfl) (va_recv hK hP (ci := 6) (q0 := 5) rfl rfl) rfl rfl hl.1 (Nat.le_of_ble_eq_true rfl) dX1_puts_2_34 ⟨Nat.le_of_ble_eq_true rfl, Nat.le_of_ble_eq_true rfl⟩ (fun r_4 H locs hQ hF hS => ?_)
    have hP := va_P.ro hF hP
    obtain rfl : bI ((rcf f (x + 1) 0) = (nI (0)) ∧ (rcf f (x + 1) 1) = (slg j)) = r_4 := hQ.symm
    refine lv_if_eq (tgt := 44) hx hb dX1_puts_2_37 (by decide) (fun c_5 => ?_) (fun c_5 => ?_)
    · have c_5 := bI_0.1 c_5
      refine lv_iconst (v := nI (0)) hx hb dX1_puts_2_44 (by decide) ?_
      refine lv_iadd hx hb dX1_puts_2_45 ?_
      refine lv_tope (y := nI ((putsOf f (slg j) x) + 0)) (nI_add _ _) ?_
      refine lv_istore_n (lv' := [(2, .int (nI ((putsOf f (slg j) x) + 0))), (0, .ref st), (1, .int (nI (j))), (3, .int (nI (x + 1)))]) hx hb dX1_puts_2_46 rfl hl (by decide) rfl (fun ls hl => ?_)
      refine lv_iinc (v := nI (x + 1 + 1)) (lv' := [(3, .int (nI (x + 1 + 1))), (2, .int (nI ((putsOf f (slg j) x) + 0))), (0, .ref st), (1, .int (nI (j)))]) hx hb dX1_puts_2_47 hl (k := 3) rfl (nI_add _ _) (by decide) rfl (fun ls hl => ?_)
      refine lv_goto (tgt := 4) hx hb dX1_puts_2_50 (by decide) ?_
      exact ih_4 (x + 1) H locs ls ⟨(hP.sub [0, 1, 2, 3] rfl), hS, (lv_sub (l' := [(0, .ref st), (1, .int (nI (j))), (2, .int (nI (putsOf f (slg j) (x + 1)))), (3, .int (nI ((x + 1) + 1)))]) hl [2, 3, 1, 0] (by rw [putsOf_f c_5]; rfl)), by omega⟩ (by omega)
    · have c_5 := bI_1.1 c_5
      refine lv_iconst (v := nI (1)) hx hb dX1_puts_2_40 (by decide) ?_
      refine lv_goto (tgt := 45) hx hb dX1_puts_2_41 (by decide) ?_
      refine lv_iadd hx hb dX1_puts_2_45 ?_
      refine lv_tope (y := nI ((putsOf f (slg j) x) + 1)) (nI_add _ _) ?_
      refine lv_istore_n (lv' := [(2, .int (nI ((putsOf f (slg j) x) + 1))), (0, .ref st), (1, .int (nI (j))), (3, .int (nI (x + 1)))]) hx hb dX1_puts_2_46 rfl hl (by decide) rfl (fun ls hl => ?_)
      refine lv_iinc (v := nI (x + 1 + 1)) (lv' := [(3, .int (nI (x + 1 + 1))), (2, .int (nI ((putsOf f (slg j) x) + 1))), (0, .ref st), (1, .int (nI (j)))]) hx hb dX1_puts_2_47 hl (k := 3) rfl (nI_add _ _) (by decide) rfl (fun ls hl => ?_)
      refine lv_goto (tgt := 4) hx hb dX1_puts_2_50 (by decide) ?_
      exact ih_4 (x + 1) H locs ls ⟨(hP.sub [0, 1, 2, 3] rfl), hS, (lv_sub (l' := [(0, .ref st), (1, .int (nI (j))), (2, .int (nI (putsOf f (slg j) (x + 1)))), (3, .int (nI ((x + 1) + 1)))]) hl [2, 3, 1, 0] (by rw [putsOf_t c_5]; rfl)), by omega⟩ (by omega)
