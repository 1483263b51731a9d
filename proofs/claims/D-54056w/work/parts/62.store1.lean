set_option maxHeartbeats 4000000 in
set_option maxRecDepth 100000 in
theorem mX1_commitsBehind (l : Launch) (D : va_G) (dA : Nat → ClassId) (ad : Nat → Nat) (sz : Nat) (st : Nat) (jn : Nat) (sl : Nat) (sa : Nat) (se : Nat) (tk : Int32) (tl : Int32) (tr : Int32) (lc : Int32) (lr : Int32) (ax : Int32) (al : Nat) (mc : Int32) (ae : Nat) (n : Nat) (f : Nat → Int32) (k : Nat) (h1 : k ≤ n) : Met l yX1_commitsBehind (ws_ yX1_commitsBehind cX1_commitsBehind 4 (some .int)) ({ frames := 4, cells := 0, slots := 0, locals := 130 }) (va_Pc [.ref st, .int (nI (k))] (zP D dA ad (fun q => sz ≤ q) sz (fun H => va_P D vwCl [(st, .inr (1, [.ref jn, .ref sl, .ref sa, .ref se, .int tk, .int tl, .int tr, .int lc, .int lr, .int ax])), (jn, .inr (2, [.ref al])), (al, .inr (9, [.int mc, .ref ae, .int (nI (n))]))] H ∧ LogRA D dA (fun q => sz ≤ q) f ae n H))) (zQi (fun rz H => rz = nI (commits f (k + 1) (n - k))) (fun q => sz ≤ q)) (0) (0) (fun q => sz ≤ q) := by
  refine Met.ofW (cc := cX1_commitsBehind) (maxL := 4) (ret := (some .int)) (by decide) rfl ?_
  intro p e s m args below meth c s₁ B hml hv
  obtain ⟨rfl, hsz, hC, hP⟩ := hv
  have hx := B.exec
  have hb := B.bytes
  have hr := B.returns
  have hts := atoms_spec (ws := ws_ yX1_commitsBehind cX1_commitsBehind 4 (some .int)) B.pre
  have hts : ∀ w ∈ lw_all, w.before _ s = true := fun w h => hts w (List.mem_cons_of_mem _ h)
  have hown : s.vm.findClass RX1 = some m.cls := findClass_of_methodNamed B.named
  have hlocks := B.notSynchronized
  subst hsz
  have hK := hC.K
  have hA : ∀ q : Nat, s.heap.size ≤ q → s.heap.size ≤ q := fun _ h => h
  have hS : va_S (fun q => s.heap.size ≤ q) s.heap s.heap [] := va_S.rf
  obtain ⟨hP, hP2⟩ := hP
  have hP : va_P D vwCl [(st, .inr (1, [.ref jn, .ref sl, .ref sa, .ref se, .int tk, .int tl, .int tr, .int lc, .int lr, .int ax])), (jn, .inr (2, [.ref al])), (al, .inr (9, [.int mc, .ref ae, .int (nI (n))]))] s.heap := hP
  have hn9 := hP2.1
  have hl := lv_entry ([.ref st, .int (nI (k))]) (n := 4) (Nat.le_of_ble_eq_true rfl)
  rw [lg_entry_eq]
  generalize (lg_sl ([.ref st, .int (nI (k))]) ++ List.replicate (4 - (lg_sl ([.ref st, .int (nI (k))])).length) Slot.unset).toArray = ls at hl ⊢
  have hl : lv_has ls 4 [(0, .ref st), (1, .int (nI (k)))] := hl
  refine lv_iconst (v := nI (0)) hx hb dX1_commitsBehind_0 (by decide) ?_
  refine lv_istore_n (lv' := [(2, .int (nI (0))), (0, .ref st), (1, .int (nI (k)))]) hx hb dX1_commitsBehind_1 rfl hl (by decide) rfl (fun ls hl => ?_)
  refine lv_iload_n hx hb dX1_commitsBehind_2 rfl (lv_at hl 2 rfl) ?_
  refine lv_iconst (v := nI (1)) hx hb dX1_commitsBehind_3 (by decide) ?_
  refine lv_iadd hx hb dX1_commitsBehind_4 ?_
  refine lv_tope (y := nI (k + 1)) (nI_add _ _) ?_
  refine lv_istore_n (lv' := [(3, .int (nI (k + 1))), (2, .int (nI (0))), (0, .ref st), (1, .int (nI (k)))]) hx hb dX1_commitsBehind_5 rfl hl (by decide) rfl (fun ls hl => ?_)
  refine z_loop (σ := Nat) (fun x => n - k - x) (fun x H locs ls => va_P D vwCl [(st, .inr (1, [.ref jn, .ref sl, .ref sa, .ref se, .int tk, .int tl, .int tr, .int lc, .int lr, .int ax])), (jn, .inr (2, [.ref al])), (al, .inr (9, [.int mc, .ref ae, .int (nI (n))]))] H ∧ va_S (fun q => s.heap.size ≤ q) s.heap H locs ∧ lv_has ls 4 [(0, .ref st), (1, .int (nI (k))), (2, .int (nI (commits f (k + 1) x))), (3, .int (nI (k + 1 + x)))] ∧ k + x ≤ n) (0) ⟨hP, hS, (lv_sub (l' := [(0, .ref st), (1, .int (nI (k))), (2, .int (nI (commits f (k + 1) 0))), (3, .int (nI (k + 1 + 0)))]) hl [2, 3, 1, 0] rfl), by omega⟩ ?_
  intro x H locs ls ⟨hP, hS, hl, hx1⟩ ih_6
  refine lv_iload_n hx hb dX1_commitsBehind_6 rfl (lv_at hl 3 rfl) ?_
  refine lv_aload_n hx hb dX1_commitsBehind_7 rfl (lv_at hl 0 rfl) ?_
  refine va_get (D := D) (ci := 1) (v := .ref jn) (C := RX1) (T := TX1) (N := 10) hx hb hts in_X1 hown hK hP 0 rfl rfl 0 (by decide) (hts _ q192) (fun _ h9 => h9) rfl dX1_commitsBehind_8 ?_
  refine z_cVi (As := []) (rest := [.int (nI (k + 1 + x))]) ⟨hx, hb, hml, hown, hts⟩ (mX2_size l D dA ad H.size jn al mc ae n) (cwV 0 hts (lw_V q636 q637 q638 q56 q639) rfl rfl rfl (by decide +kernel) ⟨Nat.le_of_ble_eq_true rfl, Nat.le_of_ble_eq_true rfl⟩) hC hS (fun _ h => hA _ (Nat.le_trans hS.1 h)) (hP.sub (ws' := [(jn, .inr (2, [.ref al])), (al, .inr (9, [.int mc, .ref ae, .int (nI (n))]))]) [1, 2] rfl) (va_recv hK hP (ci := 2) (q0 := 1) rfl rfl) rfl rfl hl.1 (Nat.le_of_ble_eq_true rfl) dX1_commitsBehind_11 ⟨Nat.le_of_ble_eq_true rfl, Nat.le_of_ble_eq_true rfl⟩ (fun r_1 H locs hQ hF hS => ?_)
  have hP := va_P.ro hF hP
  obtain rfl : nI (n) = r_1 := hQ.symm
  refine lv_icmp_gt (tgt := 49) hx hb dX1_commitsBehind_14 (by decide) (fun c_2 => ?_) (fun c_2 => ?_)
  · have c_2 := (nI_ltI (by omega) (by omega)).1 c_2
    refine lv_iload_n hx hb dX1_commitsBehind_49 rfl (lv_at hl 2 rfl) ?_
    exact z_iret (v := nI (commits f (k + 1) x)) hx hb hr hS (by rw [show n - k = x by omega]) (by omega) (by omega) dX1_commitsBehind_50
  · have c_2 := mt (nI_ltI (by omega) (by omega)).2 c_2
    refine lv_iload_n hx hb dX1_commitsBehind_17 rfl (lv_at hl 2 rfl) ?_
    refine lv_aload_n hx hb dX1_commitsBehind_18 rfl (lv_at hl 0 rfl) ?_
    refine va_get (D := D) (ci := 1) (v := .ref jn) (C := RX1) (T := TX1) (N := 10) hx hb hts in_X1 hown hK hP 0 rfl rfl 0 (by decide) (hts _ q192) (fun _ h9 => h9) rfl dX1_commitsBehind_19 ?_
    refine lv_iload_n hx hb dX1_commitsBehind_22 rfl (lv_at hl 3 rfl) ?_
    obtain ⟨y9, cap9, g9, hc9, hd9, hE9, hy9, hN9, hV9⟩ := (hP2.kept hS).ro.at (r := k + 1 + x) (by omega) (by omega)
    have hP := (hP.app (va_P1 hE9)).app (va_P1 hN9)
    have hP : va_P D vwCl [(st, .inr (1, [.ref jn, .ref sl, .ref sa, .ref se, .int tk, .int tl, .int tr, .int lc, .int lr, .int ax])), (jn, .inr (2, [.ref al])), (al, .inr (9, [.int mc, .ref ae, .int (nI (n))])), (ae, .inl (dA 3, cap9, .inr (.inr (.inr (.inr g9))))), (y9, .inr (6, [.int (rcf f (k + 1 + x) 0), .int (rcf f (k + 1 + x) 1), .int (nfF f (k + 1 + x) 2), .int (nfF f (k + 1 + x) 3), .int (rcf f (k + 1 + x) 4)]))] H := hP
    refine z_cVr (As := [.int (nI (k + 1 + x))]) (rest := [.int (nI (commits f (k + 1) x))]) ⟨hx, hb, hml, hown, hts⟩ (mX2_at l D dA ad H.size jn al mc ae n cap9 g9 (k + 1 + x) y9 (by omega) (by omega) (hc9) (by omega) (hy9)) (cwV 1 hts (lw_V q731 q732 q733 q56 q734) rfl rfl rfl (by decide +kernel) ⟨Nat.le_of_ble_eq_true rfl, Nat.le_of_ble_eq_true rfl⟩) hC hS (fun _ h => hA _ (Nat.le_trans hS.1 h)) ⟨(hP.sub (ws' := [(jn, .inr (2, [.ref al])), (al, .inr (9, [.int mc, .ref ae, .int (nI (n))])), (ae, .inl (dA 3, cap9, .inr (.inr (.inr (.inr g9)))))]) [1, 2, 3] rfl), hV9⟩ (va_recv hK hP (ci := 2) (q0 := 1) rfl rfl) rfl rfl hl.1 (Nat.le_of_ble_eq_true rfl) dX1_commitsBehind_23 ⟨Nat.le_of_ble_eq_true rfl, Nat.le_of_ble_eq_true rfl⟩ (fun r_3 H locs hQ hF hS => ?_)
    have hP := va_P.ro hF hP
    obtain rfl : y9 = r_3 := hQ.symm
    refine va_castE hx hb hown (hts _ q645) (va_recv hK hP (ci := 6) (q0 := 4) rfl rfl) dX1_commitsBehind_26 ?_
    refine va_getN (D := D) (ci := 6) (v := .int (rcf f (k + 1 + x) 0)) (C := RX6) (T := TX6) (N := 5) hx hb hts in_X6 hown hK hP 4 rfl rfl 0 (by decide) (Cx.nF hC (List.mem_of_getElem? (i := 24) rfl)) (fun _ h9 => h9) rfl dX1_commitsBehind_29 ?_
    refine lv_iconst (v := nI (1)) hx hb dX1_commitsBehind_32 (by decide) ?_
    refine lv_icmp_ne (tgt := 40) hx hb dX1_commitsBehind_33 (by decide) (fun c_4 => ?_) (fun c_4 => ?_)
    · refine lv_iconst (v := nI (0)) hx hb dX1_commitsBehind_40 (by decide) ?_
      refine lv_iadd hx hb dX1_commitsBehind_41 ?_
      refine lv_tope (y := nI ((commits f (k + 1) x) + 0)) (nI_add _ _) ?_
      refine lv_istore_n (lv' := [(2, .int (nI ((commits f (k + 1) x) + 0))), (0, .ref st), (1, .int (nI (k))), (3, .int (nI (k + 1 + x)))]) hx hb dX1_commitsBehind_42 rfl hl (by decide) rfl (fun ls hl => ?_)
      refine lv_iinc (v := nI (k + 1 + x + 1)) (lv' := [(3, .int (nI (k + 1 + x + 1))), (2, .int (nI ((commits f (k + 1) x) + 0))), (0, .ref st), (1, .int (nI (k)))]) hx hb dX1_commitsBehind_43 hl (k := 3) rfl (nI_add _ _) (by decide) rfl (fun ls hl => ?_)
      refine lv_goto (tgt := 6) hx hb dX1_commitsBehind_46 (by decide) ?_
      exact ih_6 (x + 1) H locs ls ⟨(hP.sub [0, 1, 2] rfl), hS, (lv_sub (l' := [(0, .ref st), (1, .int (nI (k))), (2, .int (nI (commits f (k + 1) (x + 1)))), (3, .int (nI (k + 1 + (x + 1))))]) hl [2, 3, 1, 0] (by rw [commits_f c_4]; rfl)), by omega⟩ (by omega)
    · refine lv_iconst (v := nI (1)) hx hb dX1_commitsBehind_36 (by decide) ?_
      refine lv_goto (tgt := 41) hx hb dX1_commitsBehind_37 (by decide) ?_
      refine lv_iadd hx hb dX1_commitsBehind_41 ?_
      refine lv_tope (y := nI ((commits f (k + 1) x) + 1)) (nI_add _ _) ?_
      refine lv_istore_n (lv' := [(2, .int (nI ((commits f (k + 1) x) + 1))), (0, .ref st), (1, .int (nI (k))), (3, .int (nI (k + 1 + x)))]) hx hb dX1_commitsBehind_42 rfl hl (by decide) rfl (fun ls hl => ?_)
      refine lv_iinc (v := nI (k + 1 + x + 1)) (lv' := [(3, .int (nI (k + 1 + x + 1))), (2, .int (nI ((commits f (k + 1) x) + 1))), (0, .ref st), (1, .int (nI (k)))]) hx hb dX1_commitsBehind_43 hl (k := 3) rfl (nI_add _ _) (by decide) rfl (fun ls hl => ?_)
      refine lv_goto (tgt := 6) hx hb dX1_commitsBehind_46 (by decide) ?_
      exact ih_6 (x + 1) H locs ls ⟨(hP.sub [0, 1, 2] rfl), hS, (lv_sub (l' := [(0, .ref st), (1, .int (nI (k))), (2, .int (nI (commits f (k + 1) (x + 1)))), (3, .int (nI (k + 1 + (x + 1))))]) hl [2, 3, 1, 0] (by rw [commits_t c_4]; rfl)), by omega⟩ (by omega)

set_option maxHeartbeats 4000000 in
set_option maxRecDepth 100000 in
theorem mX1_putBy (l : Launch) (D : va_G) (dA : Nat → ClassId) (ad : Nat → Nat) (sz : Nat) (st : Nat) (jn : Nat) (sl : Nat) (sa : Nat) (se : Nat) (tk : Int32) (tl : Int32) (tr : Int32) (lc : Int32) (lr : Int32) (ax : Int32) (al : Nat) (mc : Int32) (ae : Nat) (n : Nat) (f : Nat → Int32) (t : Int32) (key : Int32) (po : Nat) (h1 : po ≤ n) : Met l yX1_putBy (ws_ yX1_putBy cX1_putBy 7 (some .int)) ({ frames := 4, cells := 0, slots := 0, locals := 130 }) (va_Pc [.ref st, .int t, .int key, .int (nI (po))] (zP D dA ad (fun q => sz ≤ q) sz (fun H => va_P D vwCl [(st, .inr (1, [.ref jn, .ref sl, .ref sa, .ref se, .int tk, .int tl, .int tr, .int lc, .int lr, .int ax])), (jn, .inr (2, [.ref al])), (al, .inr (9, [.int mc, .ref ae, .int (nI (n))]))] H ∧ LogRA D dA (fun q => sz ≤ q) f ae n H))) (zQi (fun rz H => rz = pvF f t key po) (fun q => sz ≤ q)) (0) (0) (fun q => sz ≤ q) := by
  refine Met.ofW (cc := cX1_putBy) (maxL := 7) (ret := (some .int)) (by decide) rfl ?_
  intro p e s m args below meth c s₁ B hml hv
  obtain ⟨rfl, hsz, hC, hP⟩ := hv
  have hx := B.exec
  have hb := B.bytes
  have hr := B.returns
  have hts := atoms_spec (ws := ws_ yX1_putBy cX1_putBy 7 (some .int)) B.pre
  have hts : ∀ w ∈ lw_all, w.before _ s = true := fun w h => hts w (List.mem_cons_of_mem _ h)
  have hown : s.vm.findClass RX1 = some m.cls := findClass_of_methodNamed B.named
  have hlocks := B.notSynchronized
  subst hsz
  have hK := hC.K
  have hA : ∀ q : Nat, s.heap.size ≤ q → s.heap.size ≤ q := fun _ h => h
  have hS : va_S (fun q => s.heap.size ≤ q) s.heap s.heap [] := va_S.rf
  obtain ⟨hP, hP2⟩ := hP
  have hP : va_P D vwCl [(st, .inr (1, [.ref jn, .ref sl, .ref sa, .ref se, .int tk, .int tl, .int tr, .int lc, .int lr, .int ax])), (jn, .inr (2, [.ref al])), (al, .inr (9, [.int mc, .ref ae, .int (nI (n))]))] s.heap := hP
  have hn9 := hP2.1
  have hl := lv_entry ([.ref st, .int t, .int key, .int (nI (po))]) (n := 7) (Nat.le_of_ble_eq_true rfl)
  rw [lg_entry_eq]
  generalize (lg_sl ([.ref st, .int t, .int key, .int (nI (po))]) ++ List.replicate (7 - (lg_sl ([.ref st, .int t, .int key, .int (nI (po))])).length) Slot.unset).toArray = ls at hl ⊢
  have hl : lv_has ls 7 [(0, .ref st), (1, .int t), (2, .int key), (3, .int (nI (po)))] := hl
  refine lv_iconst (v := (-1)) hx hb dX1_putBy_0 (by decide) ?_
  refine lv_istore (lv' := [(4, .int (-1)), (0, .ref st), (1, .int t), (2, .int key), (3, .int (nI (po)))]) hx hb dX1_putBy_1 hl (by decide) rfl (fun ls hl => ?_)
  refine lv_iconst (v := nI (1)) hx hb dX1_putBy_3 (by decide) ?_
  refine lv_istore (lv' := [(5, .int (nI (1))), (4, .int (-1)), (0, .ref st), (1, .int t), (2, .int key), (3, .int (nI (po)))]) hx hb dX1_putBy_4 hl (by decide) rfl (fun ls hl => ?_)
  refine z_loop (σ := Nat) (fun x => po - x) (fun x H locs ls => va_P D vwCl [(st, .inr (1, [.ref jn, .ref sl, .ref sa, .ref se, .int tk, .int tl, .int tr, .int lc, .int lr, .int ax])), (jn, .inr (2, [.ref al])), (al, .inr (9, [.int mc, .ref ae, .int (nI (n))]))] H ∧ va_S (fun q => s.heap.size ≤ q) s.heap H locs ∧ lv_has ls 7 [(0, .ref st), (1, .int t), (2, .int key), (3, .int (nI (po))), (4, .int (pvF f t key x)), (5, .int (nI (x + 1)))] ∧ x ≤ po) (0) ⟨hP, hS, (lv_sub (l' := [(0, .ref st), (1, .int t), (2, .int key), (3, .int (nI (po))), (4, .int (pvF f t key 0)), (5, .int (nI (0 + 1)))]) hl [2, 3, 4, 5, 1, 0] rfl), by omega⟩ ?_
  intro x H locs ls ⟨hP, hS, hl, hx1⟩ ih_6
  refine lv_iload hx hb dX1_putBy_6 (lv_at hl 5 rfl) ?_
  refine lv_iload_n hx hb dX1_putBy_8 rfl (lv_at hl 3 rfl) ?_
  refine lv_icmp_gt (tgt := 63) hx hb dX1_putBy_9 (by decide) (fun c_1 => ?_) (fun c_1 => ?_)
  · have c_1 := (nI_ltI (by omega) (by omega)).1 c_1
    refine lv_iload hx hb dX1_putBy_63 (lv_at hl 4 rfl) ?_
    exact z_iret (v := pvF f t key x) hx hb hr hS (by rw [show po = x by omega]) (by omega) (by omega) dX1_putBy_65
  · have c_1 := mt (nI_ltI (by omega) (by omega)).2 c_1
    refine lv_aload_n hx hb dX1_putBy_12 rfl (lv_at hl 0 rfl) ?_
    refine va_get (D := D) (ci := 1) (v := .ref jn) (C := RX1) (T := TX1) (N := 10) hx hb hts in_X1 hown hK hP 0 rfl rfl 0 (by decide) (hts _ q192) (fun _ h9 => h9) rfl dX1_putBy_13 ?_
    refine lv_iload hx hb dX1_putBy_16 (lv_at hl 5 rfl) ?_
    obtain ⟨y9, cap9, g9, hc9, hd9, hE9, hy9, hN9, hV9⟩ := (hP2.kept hS).ro.at (r := x + 1) (by omega) (by omega)
    have hP := (hP.app (va_P1 hE9)).app (va_P1 hN9)
    have hP : va_P D vwCl [(st, .inr (1, [.ref jn, .ref sl, .ref sa, .ref se, .int tk, .int tl, .int tr, .int lc, .int lr, .int ax])), (jn, .inr (2, [.ref al])), (al, .inr (9, [.int mc, .ref ae, .int (nI (n))])), (ae, .inl (dA 3, cap9, .inr (.inr (.inr (.inr g9))))), (y9, .inr (6, [.int (rcf f (x + 1) 0), .int (rcf f (x + 1) 1), .int (nfF f (x + 1) 2), .int (nfF f (x + 1) 3), .int (rcf f (x + 1) 4)]))] H := hP
    refine z_cVr (As := [.int (nI (x + 1))]) (rest := []) ⟨hx, hb, hml, hown, hts⟩ (mX2_at l D dA ad H.size jn al mc ae n cap9 g9 (x + 1) y9 (by omega) (by omega) (hc9) (by omega) (hy9)) (cwV 1 hts (lw_V q731 q732 q733 q56 q734) rfl rfl rfl (by decide +kernel) ⟨Nat.le_of_ble_eq_true rfl, Nat.le_of_ble_eq_true rfl⟩) hC hS (fun _ h => hA _ (Nat.le_trans hS.1 h)) ⟨(hP.sub (ws' := [(jn, .inr (2, [.ref al])), (al, .inr (9, [.int mc, .ref ae, .int (nI (n))])), (ae, .inl (dA 3, cap9, .inr (.inr (.inr (.inr g9)))))]) [1, 2, 3] rfl), hV9⟩ (va_recv hK hP (ci := 2) (q0 := 1) rfl rfl) rfl rfl hl.1 (Nat.le_of_ble_eq_true rfl) dX1_putBy_18 ⟨Nat.le_of_ble_eq_true rfl, Nat.le_of_ble_eq_true rfl⟩ (fun r_2 H locs hQ hF hS => ?_)
    have hP := va_P.ro hF hP
    obtain rfl : y9 = r_2 := hQ.symm
    refine va_castE hx hb hown (hts _ q645) (va_recv hK hP (ci := 6) (q0 := 4) rfl rfl) dX1_putBy_21 ?_
    refine lv_astore (lv' := [(6, .ref y9), (0, .ref st), (1, .int t), (2, .int key), (3, .int (nI (po))), (4, .int (pvF f t key x)), (5, .int (nI (x + 1)))]) hx hb dX1_putBy_24 hl (by decide) rfl (fun ls hl => ?_)
    refine lv_aload hx hb dX1_putBy_26 (lv_at hl 0 rfl) ?_
    refine lv_iconst (v := nI (0)) hx hb dX1_putBy_28 (by decide) ?_
    refine lv_iload_n hx hb dX1_putBy_29 rfl (lv_at hl 2 rfl) ?_
    refine z_cVi (As := [.int (nI (0)), .int t]) (rest := []) ⟨hx, hb, hml, hown, hts⟩ (mX6_isOf l D dA ad H.size y9 (rcf f (x + 1) 0) (rcf f (x + 1) 1) (nfF f (x + 1) 2) (nfF f (x + 1) 3) (rcf f (x + 1) 4) (nI (0)) t) (cwV 2 hts (lw_V q943 q944 q945 q79 q946) rfl rfl rfl (by decide +kernel) ⟨Nat.le_of_ble_eq_true rfl, Nat.le_of_ble_eq_true rfl⟩) hC hS (fun _ h => hA _ (Nat.le_trans hS.1 h)) (hP.sub (ws' := [(y9, .inr (6, [.int (rcf f (x + 1) 0), .int (rcf f (x + 1) 1), .int (nfF f (x + 1) 2), .int (nfF f (x + 1) 3), .int (rcf f (x + 1) 4)]))]) [4] rfl) (va_recv hK hP (ci := 6) (q0 := 4) rfl rfl) rfl rfl hl.1 (Nat.le_of_ble_eq_true rfl) dX1_putBy_30 ⟨Nat.le_of_ble_eq_true rfl, Nat.le_of_ble_eq_true rfl⟩ (fun r_3 H locs hQ hF hS => ?_)
    have hP := va_P.ro hF hP
    obtain rfl : bI ((rcf f (x + 1) 0) = (nI (0)) ∧ (rcf f (x + 1) 1) = t) = r_3 := hQ.symm
    refine lv_if_eq (tgt := 53) hx hb dX1_putBy_33 (by decide) (fun c_4 => ?_) (fun c_4 => ?_)
    · have c_4 := bI_0.1 c_4
      refine lv_iload hx hb dX1_putBy_53 (lv_at hl 5 rfl) ?_
      refine lv_istore (lv' := [(4, .int (pvF f t key x)), (6, .ref y9), (0, .ref st), (1, .int t), (2, .int key), (3, .int (nI (po))), (5, .int (nI (x + 1)))]) hx hb dX1_putBy_55 hl (by decide) rfl (fun ls hl => ?_)
      refine lv_iinc (v := nI (x + 1 + 1)) (lv' := [(5, .int (nI (x + 1 + 1))), (4, .int (pvF f t key x)), (6, .ref y9), (0, .ref st), (1, .int t), (2, .int key), (3, .int (nI (po)))]) hx hb dX1_putBy_57 hl (k := 6) rfl (nI_add _ _) (by decide) rfl (fun ls hl => ?_)
      refine lv_goto (tgt := 6) hx hb dX1_putBy_60 (by decide) ?_
      exact ih_6 (x + 1) H locs ls ⟨(hP.sub [0, 1, 2] rfl), hS, (lv_sub (l' := [(0, .ref st), (1, .int t), (2, .int key), (3, .int (nI (po))), (4, .int (pvF f t key (x + 1))), (5, .int (nI ((x + 1) + 1)))]) hl [3, 4, 5, 6, 1, 0] (by rw [pvF_f1 c_4]; rfl)), by omega⟩ (by omega)
    · have c_4 := bI_1.1 c_4
      refine lv_aload hx hb dX1_putBy_36 (lv_at hl 0 rfl) ?_
      refine va_getN (D := D) (ci := 6) (v := .int (nfF f (x + 1) 2)) (C := RX6) (T := TX6) (N := 5) hx hb hts in_X6 hown hK hP 4 rfl rfl 2 (by decide) (Cx.nF hC (List.mem_of_getElem? (i := 26) rfl)) (fun _ h9 => h9) rfl dX1_putBy_38 ?_
      refine lv_iload_n hx hb dX1_putBy_41 rfl (lv_at hl 3 rfl) ?_
      refine lv_icmp_ne (tgt := 53) hx hb dX1_putBy_42 (by decide) (fun c_5 => ?_) (fun c_5 => ?_)
      · refine lv_iload hx hb dX1_putBy_53 (lv_at hl 5 rfl) ?_
        refine lv_istore (lv' := [(4, .int (pvF f t key x)), (6, .ref y9), (0, .ref st), (1, .int t), (2, .int key), (3, .int (nI (po))), (5, .int (nI (x + 1)))]) hx hb dX1_putBy_55 hl (by decide) rfl (fun ls hl => ?_)
        refine lv_iinc (v := nI (x + 1 + 1)) (lv' := [(5, .int (nI (x + 1 + 1))), (4, .int (pvF f t key x)), (6, .ref y9), (0, .ref st), (1, .int t), (2, .int key), (3, .int (nI (po)))]) hx hb dX1_putBy_57 hl (k := 6) rfl (nI_add _ _) (by decide) rfl (fun ls hl => ?_)
        refine lv_goto (tgt := 6) hx hb dX1_putBy_60 (by decide) ?_
        exact ih_6 (x + 1) H locs ls ⟨(hP.sub [0, 1, 2] rfl), hS, (lv_sub (l' := [(0, .ref st), (1, .int t), (2, .int key), (3, .int (nI (po))), (4, .int (pvF f t key (x + 1))), (5, .int (nI ((x + 1) + 1)))]) hl [3, 4, 5, 6, 1, 0] (by rw [pvF_f2 c_5]; rfl)), by omega⟩ (by omega)
      · refine lv_aload hx hb dX1_putBy_45 (lv_at hl 0 rfl) ?_
        refine va_getN (D := D) (ci := 6) (v := .int (nfF f (x + 1) 3)) (C := RX6) (T := TX6) (N := 5) hx hb hts in_X6 hown hK hP 4 rfl rfl 3 (by decide) (Cx.nF hC (List.mem_of_getElem? (i := 27) rfl)) (fun _ h9 => h9) rfl dX1_putBy_47 ?_
        refine lv_goto (tgt := 55) hx hb dX1_putBy_50 (by decide) ?_
        refine lv_istore (lv' := [(4, .int (nfF f (x + 1) 3)), (6, .ref y9), (0, .ref st), (1, .int t), (2, .int key), (3, .int (nI (po))), (5, .int (nI (x + 1)))]) hx hb dX1_putBy_55 hl (by decide) rfl (fun ls hl => ?_)
        refine lv_iinc (v := nI (x + 1 + 1)) (lv' := [(5, .int (nI (x + 1 + 1))), (4, .int (nfF f (x + 1) 3)), (6, .ref y9), (0, .ref st), (1, .int t), (2, .int key), (3, .int (nI (po)))]) hx hb dX1_putBy_57 hl (k := 6) rfl (nI_add _ _) (by decide) rfl (fun ls hl => ?_)
        refine lv_goto (tgt := 6) hx hb dX1_putBy_60 (by decide) ?_
        exact ih_6 (x + 1) H locs ls ⟨(hP.sub [0, 1, 2] rfl), hS, (lv_sub (l' := [(0, .ref st), (1, .int t), (2, .int key), (3, .int (nI (po))), (4, .int (pvF f t key (x + 1))), (5, .int (nI ((x + 1) + 1)))]) hl [3, 4, 5, 6, 1, 0] (by rw [pvF_t c_4 c_5]; rfl)), by omega⟩ (by omega)
