set_option maxHeartbeats 4000000 in
set_option maxRecDepth 100000 in
theorem mX4_lastCommit (l : Launch) (D : va_G) (dA : Nat → ClassId) (ad : Nat → Nat) (sz : Nat) (m0 : Nat) (sa : Nat) (pa : Nat) (ha : Nat) (xa : Nat) (ta : Nat) (v3 : Int32) (v4 : Int32) (v6 : Int32) (v7 : Int32) (v8 : Int32) (v9 : Int32) (v10 : Int32) (v11 : Int32) (v12 : Int32) (f : Nat → Int32) (pos : Nat) (key : Int32) (n : Nat) (hf0 : f 0 = nI n) (hn : n ≤ 100) (hp : pos ≤ 100) : Met l yX4_lastCommit (ws_ yX4_lastCommit cX4_lastCommit 4 (some .int)) ({ frames := 2, cells := 0, slots := 0, locals := 60 }) (va_Pc [.ref m0, .int (nI (pos)), .int key] (zP D dA ad (fun q => sz ≤ q) sz (fun H => va_P D vwCl [(m0, .inr (4, [.ref sa, .ref pa, .ref ha, .int v3, .int v4, .ref xa, .int v6, .int v7, .int v8, .int v9, .int v10, .int v11, .int v12, .ref ta])), (sa, .inl (dA 0, 718, .inl f))] H))) (zQi (fun rz H => rz = nI (lastCommit f n key pos)) (fun q => sz ≤ q)) (0) (0) (fun q => sz ≤ q) := by
  refine Met.ofW (cc := cX4_lastCommit) (maxL := 4) (ret := (some .int)) (by decide) rfl ?_
  intro p e s m args below meth c s₁ B hml hv
  obtain ⟨rfl, hsz, hC, hP⟩ := hv
  have hx := B.exec
  have hb := B.bytes
  have hr := B.returns
  have hts := atoms_spec (ws := ws_ yX4_lastCommit cX4_lastCommit 4 (some .int)) B.pre
  have hts : ∀ w ∈ lw_all, w.before _ s = true := fun w h => hts w (List.mem_cons_of_mem _ h)
  have hown : s.vm.findClass RX4 = some m.cls := findClass_of_methodNamed B.named
  have hlocks := B.notSynchronized
  subst hsz
  have hK := hC.K
  have hA : ∀ q : Nat, s.heap.size ≤ q → s.heap.size ≤ q := fun _ h => h
  have hS : va_S (fun q => s.heap.size ≤ q) s.heap s.heap [] := va_S.rf
  have hP : va_P D vwCl [(m0, .inr (4, [.ref sa, .ref pa, .ref ha, .int v3, .int v4, .ref xa, .int v6, .int v7, .int v8, .int v9, .int v10, .int v11, .int v12, .ref ta])), (sa, .inl (dA 0, 718, .inl f))] s.heap := hP
  have hl := lv_entry ([.ref m0, .int (nI (pos)), .int key]) (n := 4) (Nat.le_of_ble_eq_true rfl)
  rw [lg_entry_eq]
  generalize (lg_sl ([.ref m0, .int (nI (pos)), .int key]) ++ List.replicate (4 - (lg_sl ([.ref m0, .int (nI (pos)), .int key])).length) Slot.unset).toArray = ls at hl ⊢
  have hl : lv_has ls 4 [(0, .ref m0), (1, .int (nI (pos))), (2, .int key)] := hl
  refine lv_iload_n hx hb dX4_lastCommit_0 rfl (lv_at hl 1 rfl) ?_
  refine lv_istore_n (lv' := [(3, .int (nI (pos))), (0, .ref m0), (1, .int (nI (pos))), (2, .int key)]) hx hb dX4_lastCommit_1 rfl hl (by decide) rfl (fun ls hl => ?_)
  refine z_loop (σ := Nat) (fun i => i) (fun i H locs ls => va_P D vwCl [(m0, .inr (4, [.ref sa, .ref pa, .ref ha, .int v3, .int v4, .ref xa, .int v6, .int v7, .int v8, .int v9, .int v10, .int v11, .int v12, .ref ta])), (sa, .inl (dA 0, 718, .inl f))] H ∧ va_S (fun q => s.heap.size ≤ q) s.heap H locs ∧ lv_has ls 4 [(0, .ref m0), (1, .int (nI (pos))), (2, .int key), (3, .int (nI (i)))] ∧ i ≤ 100 ∧ lastCommit f n key pos = lastCommit f n key i) (pos) ⟨hP, hS, (lv_sub (l' := [(0, .ref m0), (1, .int (nI (pos))), (2, .int key), (3, .int (nI (pos)))]) hl [1, 2, 3, 0] rfl), by omega, rfl⟩ ?_
  intro i H locs ls ⟨hP, hS, hl, hi, hi2⟩ ih_2
  refine lv_iload_n hx hb dX4_lastCommit_2 rfl (lv_at hl 3 rfl) ?_
  refine lv_if_le (tgt := 38) hx hb dX4_lastCommit_3 (by decide) (fun c_1 => ?_) (fun c_1 => ?_)
  · have c_1 := (nI_leI (by omega) (by omega)).1 (show nI _ ≤ nI 0 from c_1)
    refine lv_iconst (v := nI (0)) hx hb dX4_lastCommit_38 (by decide) ?_
    exact z_iret (v := nI (0)) hx hb hr hS (by rw [hi2, show i = 0 by omega]; rfl) (by omega) (by omega) dX4_lastCommit_39
  · have c_1 := mt (nI_leI (by omega) (by omega)).2 (show ¬ nI _ ≤ nI 0 from c_1)
    obtain ⟨j, rfl⟩ : ∃ j, i = j + 1 := ⟨i - 1, by omega⟩
    have hstep : lastCommit f n key (j + 1) = if rcf f (j + 1) 0 = nI 1 ∧ 0 < lastPut f (rcf f (j + 1) 1) key n then j + 1 else lastCommit f n key j := rfl
    refine lv_aload_n hx hb dX4_lastCommit_6 rfl (lv_at hl 0 rfl) ?_
    refine lv_iload_n hx hb dX4_lastCommit_7 rfl (lv_at hl 3 rfl) ?_
    refine lv_iconst (v := nI (0)) hx hb dX4_lastCommit_8 (by decide) ?_
    refine z_cVi (As := [.int (nI ((j + 1))), .int (nI (0))]) (rest := []) ⟨hx, hb, hml, hown, hts⟩ (mX4_ofRecord l D dA ad H.size m0 sa pa ha xa ta v3 v4 v6 v7 v8 v9 v10 v11 v12 f (j + 1) 0 (by omega) (by omega) (by omega)) (cwV 2 hts (lw_V q1452 q1454 qs35 q67 q1455) rfl rfl rfl (by decide +kernel) ⟨Nat.le_of_ble_eq_true rfl, Nat.le_of_ble_eq_true rfl⟩) hC hS (fun _ h => hA _ (Nat.le_trans hS.1 h)) (hP.sub (ws' := [(m0, .inr (4, [.ref sa, .ref pa, .ref ha, .int v3, .int v4, .ref xa, .int v6, .int v7, .int v8, .int v9, .int v10, .int v11, .int v12, .ref ta])), (sa, .inl (dA 0, 718, .inl f))]) [0, 1] rfl) (va_recv hK hP (ci := 4) (q0 := 0) rfl rfl) rfl rfl hl.1 (Nat.le_of_ble_eq_true rfl) dX4_lastCommit_9 ⟨Nat.le_of_ble_eq_true rfl, Nat.le_of_ble_eq_true rfl⟩ (fun r_2 H locs hQ hF hS => ?_)
    have hP := va_P.ro hF hP
    obtain rfl : rcf f (j + 1) 0 = r_2 := hQ.symm
    refine lv_iconst (v := nI (1)) hx hb dX4_lastCommit_12 (by decide) ?_
    refine lv_icmp_ne (tgt := 32) hx hb dX4_lastCommit_13 (by decide) (fun c_3 => ?_) (fun c_3 => ?_)
    · refine lv_iinc (v := nI ((j + 1) - 1)) (lv' := [(3, .int (nI ((j + 1) - 1))), (0, .ref m0), (1, .int (nI (pos))), (2, .int key)]) hx hb dX4_lastCommit_32 hl (k := 3) rfl (nI_sub1 (k := 1) (by omega)) (by decide) rfl (fun ls hl => ?_)
      refine lv_goto (tgt := 2) hx hb dX4_lastCommit_35 (by decide) ?_
      exact ih_2 (j) H locs ls ⟨hP, hS, (lv_sub (l' := [(0, .ref m0), (1, .int (nI (pos))), (2, .int key), (3, .int (nI (j)))]) hl [1, 2, 3, 0] rfl), by omega, by rw [hi2, hstep, if_neg (fun q => absurd q.1 c_3)]⟩ (by omega)
    · refine lv_aload_n hx hb dX4_lastCommit_16 rfl (lv_at hl 0 rfl) ?_
      refine lv_aload_n hx hb dX4_lastCommit_17 rfl (lv_at hl 0 rfl) ?_
      refine lv_iload_n hx hb dX4_lastCommit_18 rfl (lv_at hl 3 rfl) ?_
      refine lv_iconst (v := nI (1)) hx hb dX4_lastCommit_19 (by decide) ?_
      refine z_cVi (As := [.int (nI ((j + 1))), .int (nI (1))]) (rest := [.ref m0]) ⟨hx, hb, hml, hown, hts⟩ (mX4_ofRecord l D dA ad H.size m0 sa pa ha xa ta v3 v4 v6 v7 v8 v9 v10 v11 v12 f (j + 1) 1 (by omega) (by omega) (by omega)) (cwV 2 hts (lw_V q1452 q1454 qs35 q67 q1455) rfl rfl rfl (by decide +kernel) ⟨Nat.le_of_ble_eq_true rfl, Nat.le_of_ble_eq_true rfl⟩) hC hS (fun _ h => hA _ (Nat.le_trans hS.1 h)) (hP.sub (ws' := [(m0, .inr (4, [.ref sa, .ref pa, .ref ha, .int v3, .int v4, .ref xa, .int v6, .int v7, .int v8, .int v9, .int v10, .int v11, .int v12, .ref ta])), (sa, .inl (dA 0, 718, .inl f))]) [0, 1] rfl) (va_recv hK hP (ci := 4) (q0 := 0) rfl rfl) rfl rfl hl.1 (Nat.le_of_ble_eq_true rfl) dX4_lastCommit_20 ⟨Nat.le_of_ble_eq_true rfl, Nat.le_of_ble_eq_true rfl⟩ (fun r_4 H locs hQ hF hS => ?_)
      have hP := va_P.ro hF hP
      obtain rfl : rcf f (j + 1) 1 = r_4 := hQ.symm
      refine lv_iload_n hx hb dX4_lastCommit_23 rfl (lv_at hl 2 rfl) ?_
      refine z_cVi (As := [.int (rcf f (j + 1) 1), .int key]) (rest := []) ⟨hx, hb, hml, hown, hts⟩ (mX4_lastPut l D dA ad H.size m0 sa pa ha xa ta v3 v4 v6 v7 v8 v9 v10 v11 v12 f (rcf f (j + 1) 1) key n (hf0) (hn)) (cwV 2 hts (lw_V q1500 q1502 qs43 q67 q1503) rfl rfl rfl (by decide +kernel) ⟨Nat.le_of_ble_eq_true rfl, Nat.le_of_ble_eq_true rfl⟩) hC hS (fun _ h => hA _ (Nat.le_trans hS.1 h)) (hP.sub (ws' := [(m0, .inr (4, [.ref sa, .ref pa, .ref ha, .int v3, .int v4, .ref xa, .int v6, .int v7, .int v8, .int v9, .int v10, .int v11, .int v12, .ref ta])), (sa, .inl (dA 0, 718, .inl f))]) [0, 1] rfl) (va_recv hK hP (ci := 4) (q0 := 0) rfl rfl) rfl rfl hl.1 (Nat.le_of_ble_eq_true rfl) dX4_lastCommit_24 ⟨Nat.le_of_ble_eq_true rfl, Nat.le_of_ble_eq_true rfl⟩ (fun r_5 H locs hQ hF hS => ?_)
      have hP := va_P.ro hF hP
      obtain rfl : nI (lastPut f (rcf f (j + 1) 1) key n) = r_5 := hQ.symm
      have hlp := lastPut_le f (rcf f (j + 1) 1) key n
      refine lv_if_le (tgt := 32) hx hb dX4_lastCommit_27 (by decide) (fun c_6 => ?_) (fun c_6 => ?_)
      · have c_6 := (nI_leI (by omega) (by omega)).1 (show nI _ ≤ nI 0 from c_6)
        refine lv_iinc (v := nI ((j + 1) - 1)) (lv' := [(3, .int (nI ((j + 1) - 1))), (0, .ref m0), (1, .int (nI (pos))), (2, .int key)]) hx hb dX4_lastCommit_32 hl (k := 3) rfl (nI_sub1 (k := 1) (by omega)) (by decide) rfl (fun ls hl => ?_)
        refine lv_goto (tgt := 2) hx hb dX4_lastCommit_35 (by decide) ?_
        exact ih_2 (j) H locs ls ⟨hP, hS, (lv_sub (l' := [(0, .ref m0), (1, .int (nI (pos))), (2, .int key), (3, .int (nI (j)))]) hl [1, 2, 3, 0] rfl), by omega, by rw [hi2, hstep, if_neg (fun q => absurd q.2 (by omega))]⟩ (by omega)
      · have c_6 := mt (nI_leI (by omega) (by omega)).2 (show ¬ nI _ ≤ nI 0 from c_6)
        refine lv_iload_n hx hb dX4_lastCommit_30 rfl (lv_at hl 3 rfl) ?_
        exact z_iret (v := nI ((j + 1))) hx hb hr hS (by rw [hi2, hstep, if_pos ⟨c_3, by omega⟩]) (by omega) (by omega) dX4_lastCommit_31

set_option maxHeartbeats 4000000 in
set_option maxRecDepth 100000 in
theorem mX4_valueAt (l : Launch) (D : va_G) (dA : Nat → ClassId) (ad : Nat → Nat) (sz : Nat) (m0 : Nat) (sa : Nat) (pa : Nat) (ha : Nat) (xa : Nat) (ta : Nat) (v3 : Int32) (v4 : Int32) (v6 : Int32) (v7 : Int32) (v8 : Int32) (v9 : Int32) (v10 : Int32) (v11 : Int32) (v12 : Int32) (f : Nat → Int32) (pos : Nat) (key : Int32) (n : Nat) (hf0 : f 0 = nI n) (hn : n ≤ 100) (hp : pos ≤ 100) : Met l yX4_valueAt (ws_ yX4_valueAt cX4_valueAt 4 (some .int)) ({ frames := 3, cells := 0, slots := 0, locals := 90 }) (va_Pc [.ref m0, .int (nI (pos)), .int key] (zP D dA ad (fun q => sz ≤ q) sz (fun H => va_P D vwCl [(m0, .inr (4, [.ref sa, .ref pa, .ref ha, .int v3, .int v4, .ref xa, .int v6, .int v7, .int v8, .int v9, .int v10, .int v11, .int v12, .ref ta])), (sa, .inl (dA 0, 718, .inl f))] H))) (zQi (fun rz H => rz = valueAt f n key pos) (fun q => sz ≤ q)) (0) (0) (fun q => sz ≤ q) := by
  refine Met.ofW (cc := cX4_valueAt) (maxL := 4) (ret := (some .int)) (by decide) rfl ?_
  intro p e s m args below meth c s₁ B hml hv
  obtain ⟨rfl, hsz, hC, hP⟩ := hv
  have hx := B.exec
  have hb := B.bytes
  have hr := B.returns
  have hts := atoms_spec (ws := ws_ yX4_valueAt cX4_valueAt 4 (some .int)) B.pre
  have hts : ∀ w ∈ lw_all, w.before _ s = true := fun w h => hts w (List.mem_cons_of_mem _ h)
  have hown : s.vm.findClass RX4 = some m.cls := findClass_of_methodNamed B.named
  have hlocks := B.notSynchronized
  subst hsz
  have hK := hC.K
  have hA : ∀ q : Nat, s.heap.size ≤ q → s.heap.size ≤ q := fun _ h => h
  have hS : va_S (fun q => s.heap.size ≤ q) s.heap s.heap [] := va_S.rf
  have hP : va_P D vwCl [(m0, .inr (4, [.ref sa, .ref pa, .ref ha, .int v3, .int v4, .ref xa, .int v6, .int v7, .int v8, .int v9, .int v10, .int v11, .int v12, .ref ta])), (sa, .inl (dA 0, 718, .inl f))] s.heap := hP
  have hlc := lastCommit_le f n key pos
  have hlp := fun t => lastPut_le f t key n
  have hl := lv_entry ([.ref m0, .int (nI (pos)), .int key]) (n := 4) (Nat.le_of_ble_eq_true rfl)
  rw [lg_entry_eq]
  generalize (lg_sl ([.ref m0, .int (nI (pos)), .int key]) ++ List.replicate (4 - (lg_sl ([.ref m0, .int (nI (pos)), .int key])).length) Slot.unset).toArray = ls at hl ⊢
  have hl : lv_has ls 4 [(0, .ref m0), (1, .int (nI (pos))), (2, .int key)] := hl
  refine lv_aload_n hx hb dX4_valueAt_0 rfl (lv_at hl 0 rfl) ?_
  refine lv_iload_n hx hb dX4_valueAt_1 rfl (lv_at hl 1 rfl) ?_
  refine lv_iload_n hx hb dX4_valueAt_2 rfl (lv_at hl 2 rfl) ?_
  refine z_cVi (As := [.int (nI (pos)), .int key]) (rest := []) ⟨hx, hb, hml, hown, hts⟩ (mX4_lastCommit l D dA ad s.heap.size m0 sa pa ha xa ta v3 v4 v6 v7 v8 v9 v10 v11 v12 f pos key n (hf0) (hn) (hp)) (cwV 2 hts (lw_V q1496 q1498 qs42 q67 q1499) rfl rfl rfl (by decide +kernel) ⟨Nat.le_of_ble_eq_true rfl, Nat.le_of_ble_eq_true rfl⟩) hC hS (fun _ h => hA _ (Nat.le_trans hS.1 h)) (hP.sub (ws' := [(m0, .inr (4, [.ref sa, .ref pa, .ref ha, .int v3, .int v4, .ref xa, .int v6, .int v7, .int v8, .int v9, .int v10, .int v11, .int v12, .ref ta])), (sa, .inl (dA 0, 718, .inl f))]) [0, 1] rfl) (va_recv hK hP (ci := 4) (q0 := 0) rfl rfl) rfl rfl hl.1 (Nat.le_of_ble_eq_true rfl) dX4_valueAt_3 ⟨Nat.le_of_ble_eq_true rfl, Nat.le_of_ble_eq_true rfl⟩ (fun r_1 H locs hQ hF hS => ?_)
  have hP := va_P.ro hF hP
  obtain rfl : nI (lastCommit f n key pos) = r_1 := hQ.symm
  refine lv_istore_n (lv' := [(3, .int (nI (lastCommit f n key pos))), (0, .ref m0), (1, .int (nI (pos))), (2, .int key)]) hx hb dX4_valueAt_6 rfl hl (by decide) rfl (fun ls hl => ?_)
  refine lv_iload_n hx hb dX4_valueAt_7 rfl (lv_at hl 0 rfl) ?_
  refine lv_if_ne (tgt := 15) hx hb dX4_valueAt_8 (by decide) (fun c_2 => ?_) (fun c_2 => ?_)
  · have c_2 := mt (nI_eq (by omega) (by omega)).2 (show ¬ nI _ = nI 0 from c_2)
    refine lv_aload_n hx hb dX4_valueAt_15 rfl (lv_at hl 1 rfl) ?_
    refine lv_aload_n hx hb dX4_valueAt_16 rfl (lv_at hl 1 rfl) ?_
    refine lv_aload_n hx hb dX4_valueAt_17 rfl (lv_at hl 1 rfl) ?_
    refine lv_iload_n hx hb dX4_valueAt_18 rfl (lv_at hl 0 rfl) ?_
    refine lv_iconst (v := nI (1)) hx hb dX4_valueAt_19 (by decide) ?_
    refine z_cVi (As := [.int (nI (lastCommit f n key pos)), .int (nI (1))]) (rest := [.ref m0, .ref m0]) ⟨hx, hb, hml, hown, hts⟩ (mX4_ofRecord l D dA ad H.size m0 sa pa ha xa ta v3 v4 v6 v7 v8 v9 v10 v11 v12 f (lastCommit f n key pos) 1 (by omega) (by omega) (by omega)) (cwV 2 hts (lw_V q1452 q1454 qs35 q67 q1455) rfl rfl rfl (by decide +kernel) ⟨Nat.le_of_ble_eq_true rfl, Nat.le_of_ble_eq_true rfl⟩) hC hS (fun _ h => hA _ (Nat.le_trans hS.1 h)) (hP.sub (ws' := [(m0, .inr (4, [.ref sa, .ref pa, .ref ha, .int v3, .int v4, .ref xa, .int v6, .int v7, .int v8, .int v9, .int v10, .int v11, .int v12, .ref ta])), (sa, .inl (dA 0, 718, .inl f))]) [0, 1] rfl) (va_recv hK hP (ci := 4) (q0 := 0) rfl rfl) rfl rfl hl.1 (Nat.le_of_ble_eq_true rfl) dX4_valueAt_20 ⟨Nat.le_of_ble_eq_true rfl, Nat.le_of_ble_eq_true rfl⟩ (fun r_3 H locs hQ hF hS => ?_)
    have hP := va_P.ro hF hP
    obtain rfl : rcf f (lastCommit f n key pos) 1 = r_3 := hQ.symm
    refine lv_iload_n hx hb dX4_valueAt_23 rfl (lv_at hl 3 rfl) ?_
    refine z_cVi (As := [.int (rcf f (lastCommit f n key pos) 1), .int key]) (rest := [.ref m0]) ⟨hx, hb, hml, hown, hts⟩ (mX4_lastPut l D dA ad H.size m0 sa pa ha xa ta v3 v4 v6 v7 v8 v9 v10 v11 v12 f (rcf f (lastCommit f n key pos) 1) key n (hf0) (hn)) (cwV 2 hts (lw_V q1500 q1502 qs43 q67 q1503) rfl rfl rfl (by decide +kernel) ⟨Nat.le_of_ble_eq_true rfl, Nat.le_of_ble_eq_true rfl⟩) hC hS (fun _ h => hA _ (Nat.le_trans hS.1 h)) (hP.sub (ws' := [(m0, .inr (4, [.ref sa, .ref pa, .ref ha, .int v3, .int v4, .ref xa, .int v6, .int v7, .int v8, .int v9, .int v10, .int v11, .int v12, .ref ta])), (sa, .inl (dA 0, 718, .inl f))]) [0, 1] rfl) (va_recv hK hP (ci := 4) (q0 := 0) rfl rfl) rfl rfl hl.1 (Nat.le_of_ble_eq_true rfl) dX4_valueAt_24 ⟨Nat.le_of_ble_eq_true rfl, Nat.le_of_ble_eq_true rfl⟩ (fun r_4 H locs hQ hF hS => ?_)
    have hP := va_P.ro hF hP
    obtain rfl : nI (lastPut f (rcf f (lastCommit f n key pos) 1) key n) = r_4 := hQ.symm
    refine lv_iconst (v := nI (3)) hx hb dX4_valueAt_27 (by decide) ?_
    refine z_cVi (As := [.int (nI (lastPut f (rcf f (lastCommit f n key pos) 1) key n)), .int (nI (3))]) (rest := []) ⟨hx, hb, hml, hown, hts⟩ (mX4_ofRecord l D dA ad H.size m0 sa pa ha xa ta v3 v4 v6 v7 v8 v9 v10 v11 v12 f (lastPut f (rcf f (lastCommit f n key pos) 1) key n) 3 (Nat.succ_le_of_lt (lastCommit_put (by assumption))) (Nat.le_trans (hlp _) hn) (by omega)) (cwV 2 hts (lw_V q1452 q1454 qs35 q67 q1455) rfl rfl rfl (by decide +kernel) ⟨Nat.le_of_ble_eq_true rfl, Nat.le_of_ble_eq_true rfl⟩) hC hS (fun _ h => hA _ (Nat.le_trans hS.1 h)) (hP.sub (ws' := [(m0, .inr (4, [.ref sa, .ref pa, .ref ha, .int v3, .int v4, .ref xa, .int v6, .int v7, .int v8, .int v9, .int v10, .int v11, .int v12, .ref ta])), (sa, .inl (dA 0, 718, .inl f))]) [0, 1] rfl) (va_recv hK hP (ci := 4) (q0 := 0) rfl rfl) rfl rfl hl.1 (Nat.le_of_ble_eq_true rfl) dX4_valueAt_28 ⟨Nat.le_of_ble_eq_true rfl, Nat.le_of_ble_eq_true rfl⟩ (fun r_5 H locs hQ hF hS => ?_)
    have hP := va_P.ro hF hP
    obtain rfl : rcf f (lastPut f (rcf f (lastCommit f n key pos) 1) key n) 3 = r_5 := hQ.symm
    exact z_iret (v := rcf f (lastPut f (rcf f (lastCommit f n key pos) 1) key n) 3) hx hb hr hS ((if_neg (by assumption)).symm) (by omega) (by omega) dX4_valueAt_31
  · have c_2 := (nI_eq (by omega) (by omega)).1 (show nI _ = nI 0 from c_2)
    refine lv_iconst (v := nI (0)) hx hb dX4_valueAt_11 (by decide) ?_
    refine lv_goto (tgt := 31) hx hb dX4_valueAt_12 (by decide) ?_
    exact z_iret (v := nI (0)) hx hb hr hS ((if_pos (by assumption)).symm) (by omega) (by omega) dX4_valueAt_31

set_option maxHeartbeats 4000000 in
set_option maxRecDepth 100000 in
theorem mX4_commits (l : Launch) (D : va_G) (dA : Nat → ClassId) (ad : Nat → Nat) (sz : Nat) (m0 : Nat) (sa : Nat) (pa : Nat) (ha : Nat) (xa : Nat) (ta : Nat) (v3 : Int32) (v4 : Int32) (v6 : Int32) (v7 : Int32) (v8 : Int32) (v9 : Int32) (v10 : Int32) (v11 : Int32) (v12 : Int32) (f : Nat → Int32) (a : Nat) (b : Nat) (h1 : 1 ≤ a) (h2 : a ≤ b + 1) (h3 : b ≤ 100) : Met l yX4_commits (ws_ yX4_commits cX4_commits 5 (some .int)) ({ frames := 1, cells := 0, slots := 0, locals := 30 }) (va_Pc [.ref m0, .int (nI (a)), .int (nI (b))] (zP D dA ad (fun q => sz ≤ q) sz (fun H => va_P D vwCl [(m0, .inr (4, [.ref sa, .ref pa, .ref ha, .int v3, .int v4, .ref xa, .int v6, .int v7, .int v8, .int v9, .int v10, .int v11, .int v12, .ref ta])), (sa, .inl (dA 0, 718, .inl f))] H))) (zQi (fun rz H => rz = nI (commits f a (b + 1 - a))) (fun q => sz ≤ q)) (0) (0) (fun q => sz ≤ q) := by
  refine Met.ofW (cc := cX4_commits) (maxL := 5) (ret := (some .int)) (by decide) rfl ?_
  intro p e s m args below meth c s₁ B hml hv
  obtain ⟨rfl, hsz, hC, hP⟩ := hv
  have hx := B.exec
  have hb := B.bytes
  have hr := B.returns
  have hts := atoms_spec (ws := ws_ yX4_commits cX4_commits 5 (some .int)) B.pre
  have hts : ∀ w ∈ lw_all, w.before _ s = true := fun w h => hts w (List.mem_cons_of_mem _ h)
  have hown : s.vm.findClass RX4 = some m.cls := findClass_of_methodNamed B.named
  have hlocks := B.notSynchronized
  subst hsz
  have hK := hC.K
  have hA : ∀ q : Nat, s.heap.size ≤ q → s.heap.size ≤ q := fun _ h => h
  have hS : va_S (fun q => s.heap.size ≤ q) s.heap s.heap [] := va_S.rf
  have hP : va_P D vwCl [(m0, .inr (4, [.ref sa, .ref pa, .ref ha, .int v3, .int v4, .ref xa, .int v6, .int v7, .int v8, .int v9, .int v10, .int v11, .int v12, .ref ta])), (sa, .inl (dA 0, 718, .inl f))] s.heap := hP
  have hl := lv_entry ([.ref m0, .int (nI (a)), .int (nI (b))]) (n := 5) (Nat.le_of_ble_eq_true rfl)
  rw [lg_entry_eq]
  generalize (lg_sl ([.ref m0, .int (nI (a)), .int (nI (b))]) ++ List.replicate (5 - (lg_sl ([.ref m0, .int (nI (a)), .int (nI (b))])).length) Slot.unset).toArray = ls at hl ⊢
  have hl : lv_has ls 5 [(0, .ref m0), (1, .int (nI (a))), (2, .int (nI (b)))] := hl
  refine lv_iconst (v := nI (0)) hx hb dX4_commits_0 (by decide) ?_
  refine lv_istore_n (lv' := [(3, .int (nI (0))), (0, .ref m0), (1, .int (nI (a))), (2, .int (nI (b)))]) hx hb dX4_commits_1 rfl hl (by decide) rfl (fun ls hl => ?_)
  refine lv_iload_n hx hb dX4_commits_2 rfl (lv_at hl 2 rfl) ?_
  refine lv_istore (lv' := [(4, .int (nI (a))), (3, .int (nI (0))), (0, .ref m0), (1, .int (nI (a))), (2, .int (nI (b)))]) hx hb dX4_commits_3 hl (by decide) rfl (fun ls hl => ?_)
  refine z_loop (σ := Nat) (fun i => b + 1 - a - i) (fun i H locs ls => va_P D vwCl [(m0, .inr (4, [.ref sa, .ref pa, .ref ha, .int v3, .int v4, .ref xa, .int v6, .int v7, .int v8, .int v9, .int v10, .int v11, .int v12, .ref ta])), (sa, .inl (dA 0, 718, .inl f))] H ∧ va_S (fun q => s.heap.size ≤ q) s.heap H locs ∧ lv_has ls 5 [(0, .ref m0), (1, .int (nI (a))), (2, .int (nI (b))), (3, .int (nI (commits f a i))), (4, .int (nI (a + i)))] ∧ i ≤ b + 1 - a) (0) ⟨hP, hS, (lv_sub (l' := [(0, .ref m0), (1, .int (nI (a))), (2, .int (nI (b))), (3, .int (nI (commits f a 0))), (4, .int (nI (a + 0)))]) hl [2, 3, 4, 1, 0] rfl), by omega⟩ ?_
  intro i H locs ls ⟨hP, hS, hl, hi⟩ ih_5
  refine lv_iload hx hb dX4_commits_5 (lv_at hl 4 rfl) ?_
  refine lv_iload_n hx hb dX4_commits_7 rfl (lv_at hl 2 rfl) ?_
  refine lv_icmp_gt (tgt := 36) hx hb dX4_commits_8 (by decide) (fun c_1 => ?_) (fun c_1 => ?_)
  · have c_1 := (nI_ltI (by omega) (by omega)).1 c_1
    refine lv_iload_n hx hb dX4_commits_36 rfl (lv_at hl 3 rfl) ?_
    exact z_iret (v := nI (commits f a i)) hx hb hr hS (by rw [show i = b + 1 - a by omega]) (by omega) (by omega) dX4_commits_37
  · have c_1 := mt (nI_ltI (by omega) (by omega)).2 c_1
    refine lv_iload_n hx hb dX4_commits_11 rfl (lv_at hl 3 rfl) ?_
    refine lv_aload_n hx hb dX4_commits_12 rfl (lv_at hl 0 rfl) ?_
    refine lv_iload hx hb dX4_commits_13 (lv_at hl 4 rfl) ?_
    refine lv_iconst (v := nI (0)) hx hb dX4_commits_15 (by decide) ?_
    refine z_cVi (As := [.int (nI (a + i)), .int (nI (0))]) (rest := [.int (nI (commits f a i))]) ⟨hx, hb, hml, hown, hts⟩ (mX4_ofRecord l D dA ad H.size m0 sa pa ha xa ta v3 v4 v6 v7 v8 v9 v10 v11 v12 f (a + i) 0 (by omega) (by omega) (by omega)) (cwV 2 hts (lw_V q1452 q1454 qs35 q67 q1455) rfl rfl rfl (by decide +kernel) ⟨Nat.le_of_ble_eq_true rfl, Nat.le_of_ble_eq_true rfl⟩) hC hS (fun _ h => hA _ (Nat.le_trans hS.1 h)) (hP.sub (ws' := [(m0, .inr (4, [.ref sa, .ref pa, .ref ha, .int v3, .int v4, .ref xa, .int v6, .int v7, .int v8, .int v9, .int v10, .int v11, .int v12, .ref ta])), (sa, .inl (dA 0, 718, .inl f))]) [0, 1] rfl) (va_recv hK hP (ci := 4) (q0 := 0) rfl rfl) rfl rfl hl.1 (Nat.le_of_ble_eq_true rfl) dX4_commits_16 ⟨Nat.le_of_ble_eq_true rfl, Nat.le_of_ble_eq_true rfl⟩ (fun r_2 H locs hQ hF hS => ?_)
    have hP := va_P.ro hF hP
    obtain rfl : rcf f (a + i) 0 = r_2 := hQ.symm
    refine lv_iconst (v := nI (1)) hx hb dX4_commits_19 (by decide) ?_
    refine lv_icmp_ne (tgt := 27) hx hb dX4_commits_20 (by decide) (fun c_3 => ?_) (fun c_3 => ?_)
    · refine lv_iconst (v := nI (0)) hx hb dX4_commits_27 (by decide) ?_
      refine lv_iadd hx hb dX4_commits_28 ?_
      refine lv_tope (y := nI ((commits f a i) + 0)) (nI_add _ _) ?_
      refine lv_tope (y := nI (commits f a (i + 1))) (by simp only [commits]; split <;> first | rfl | contradiction) ?_
      refine lv_istore_n (lv' := [(3, .int (nI (commits f a (i + 1)))), (0, .ref m0), (1, .int (nI (a))), (2, .int (nI (b))), (4, .int (nI (a + i)))]) hx hb dX4_commits_29 rfl hl (by decide) rfl (fun ls hl => ?_)
      refine lv_iinc (v := nI (a + i + 1)) (lv' := [(4, .int (nI (a + i + 1))), (3, .int (nI (commits f a (i + 1)))), (0, .ref m0), (1, .int (nI (a))), (2, .int (nI (b)))]) hx hb dX4_commits_30 hl (k := 4) rfl (nI_add _ _) (by decide) rfl (fun ls hl => ?_)
      refine lv_goto (tgt := 5) hx hb dX4_commits_33 (by decide) ?_
      exact ih_5 (i + 1) H locs ls ⟨hP, hS, (lv_sub (l' := [(0, .ref m0), (1, .int (nI (a))), (2, .int (nI (b))), (3, .int (nI (commits f a (i + 1)))), (4, .int (nI (a + (i + 1))))]) hl [2, 3, 4, 1, 0] rfl), by omega⟩ (by omega)
    · refine lv_iconst (v := nI (1)) hx hb dX4_commits_23 (by decide) ?_
      refine lv_goto (tgt := 28) hx hb dX4_commits_24 (by decide) ?_
      refine lv_iadd hx hb dX4_commits_28 ?_
      refine lv_tope (y := nI ((commits f a i) + 1)) (nI_add _ _) ?_
      refine lv_tope (y := nI (commits f a (i + 1))) (by simp only [commits]; split <;> first | rfl | contradiction) ?_
      refine lv_istore_n (lv' := [(3, .int (nI (commits f a (i + 1)))), (0, .ref m0), (1, .int (nI (a))), (2, .int (nI (b))), (4, .int (nI (a + i)))]) hx hb dX4_commits_29 rfl hl (by decide) rfl (fun ls hl => ?_)
      refine lv_iinc (v := nI (a + i + 1)) (lv' := [(4, .int (nI (a + i + 1))), (3, .int (nI (commits f a (i + 1)))), (0, .ref m0), (1, .int (nI (a))), (2, .int (nI (b)))]) hx hb dX4_commits_30 hl (k := 4) rfl (nI_add _ _) (by decide) rfl (fun ls hl => ?_)
      refine lv_goto (tgt := 5) hx hb dX4_commits_33 (by decide) ?_
      exact ih_5 (i + 1) H locs ls ⟨hP, hS, (lv_sub (l' := [(0, .ref m0), (1, .int (nI (a))), (2, .int (nI (b))), (3, .int (nI (commits f a (i + 1)))), (4, .int (nI (a + (i + 1))))]) hl [2, 3, 4, 1, 0] rfl), by omega⟩ (by omega)

set_option maxHeartbeats 4000000 in
set_option maxRecDepth 100000 in
theorem mX4_gaps (l : Launch) (D : va_G) (dA : Nat → ClassId) (ad : Nat → Nat) (sz : Nat) (m0 : Nat) (sa : Nat) (pa : Nat) (ha : Nat) (xa : Nat) (ta : Nat) (v3 : Int32) (v4 : Int32) (v6 : Int32) (v7 : Int32) (v8 : Int32) (v9 : Int32) (v10 : Int32) (v11 : Int32) (v12 : Int32) (f : Nat → Int32) (b : Nat) (h1 : b < 2) : Met l yX4_gaps (ws_ yX4_gaps cX4_gaps 4 (some .int)) ({ frames := 1, cells := 0, slots := 0, locals := 30 }) (va_Pc [.ref m0, .int (nI (b))] (zP D dA ad (fun q => sz ≤ q) sz (fun H => va_P D vwCl [(m0, .inr (4, [.ref sa, .ref pa, .ref ha, .int v3, .int v4, .ref xa, .int v6, .int v7, .int v8, .int v9, .int v10, .int v11, .int v12, .ref ta])), (sa, .inl (dA 0, 718, .inl f))] H))) (zQi (fun rz H => rz = nI (gaps f b 100)) (fun q => sz ≤ q)) (0) (0) (fun q => sz ≤ q) := by
  refine Met.ofW (cc := cX4_gaps) (maxL := 4) (ret := (some .int)) (by decide) rfl ?_
  intro p e s m args below meth c s₁ B hml hv
  obtain ⟨rfl, hsz, hC, hP⟩ := hv
  have hx := B.exec
  have hb := B.bytes
  have hr := B.returns
  have hts := atoms_spec (ws := ws_ yX4_gaps cX4_gaps 4 (some .int)) B.pre
  have hts : ∀ w ∈ lw_all, w.before _ s = true := fun w h => hts w (List.mem_cons_of_mem _ h)
  have hown : s.vm.findClass RX4 = some m.cls := findClass_of_methodNamed B.named
  have hlocks := B.notSynchronized
  subst hsz
  have hK := hC.K
  have hA : ∀ q : Nat, s.heap.size ≤ q → s.heap.size ≤ q := fun _ h => h
  have hS : va_S (fun q => s.heap.size ≤ q) s.heap s.heap [] := va_S.rf
  have hP : va_P D vwCl [(m0, .inr (4, [.ref sa, .ref pa, .ref ha, .int v3, .int v4, .ref xa, .int v6, .int v7, .int v8, .int v9, .int v10, .int v11, .int v12, .ref ta])), (sa, .inl (dA 0, 718, .inl f))] s.heap := hP
  have hl := lv_entry ([.ref m0, .int (nI (b))]) (n := 4) (Nat.le_of_ble_eq_true rfl)
  rw [lg_entry_eq]
  generalize (lg_sl ([.ref m0, .int (nI (b))]) ++ List.replicate (4 - (lg_sl ([.ref m0, .int (nI (b))])).length) Slot.unset).toArray = ls at hl ⊢
  have hl : lv_has ls 4 [(0, .ref m0), (1, .int (nI (b)))] := hl
  refine lv_iconst (v := nI (0)) hx hb dX4_gaps_0 (by decide) ?_
  refine lv_istore_n (lv' := [(2, .int (nI (0))), (0, .ref m0), (1, .int (nI (b)))]) hx hb dX4_gaps_1 rfl hl (by decide) rfl (fun ls hl => ?_)
  refine lv_iconst (v := nI (1)) hx hb dX4_gaps_2 (by decide) ?_
  refine lv_istore_n (lv' := [(3, .int (nI (1))), (2, .int (nI (0))), (0, .ref m0), (1, .int (nI (b)))]) hx hb dX4_gaps_3 rfl hl (by decide) rfl (fun ls hl => ?_)
  refine z_loop (σ := Nat) (fun i => 100 - i) (fun i H locs ls => va_P D vwCl [(m0, .inr (4, [.ref sa, .ref pa, .ref ha, .int v3, .int v4, .ref xa, .int v6, .int v7, .int v8, .int v9, .int v10, .int v11, .int v12, .ref ta])), (sa, .inl (dA 0, 718, .inl f))] H ∧ va_S (fun q => s.heap.size ≤ q) s.heap H locs ∧ lv_has ls 4 [(0, .ref m0), (1, .int (nI (b))), (2, .int (nI (gaps f b i))), (3, .int (nI (i + 1)))] ∧ i ≤ 100) (0) ⟨hP, hS, (lv_sub (l' := [(0, .ref m0), (1, .int (nI (b))), (2, .int (nI (gaps f b 0))), (3, .int (nI (0 + 1)))]) hl [2, 3, 1, 0] rfl), by omega⟩ ?_
  intro i H locs ls ⟨hP, hS, hl, hi⟩ ih_4
  refine lv_iload_n hx hb dX4_gaps_4 rfl (lv_at hl 3 rfl) ?_
  refine lv_bipush (v := nI (100)) hx hb dX4_gaps_5 (by decide) ?_
  refine lv_icmp_gt (tgt := 33) hx hb dX4_gaps_7 (by decide) (fun c_1 => ?_) (fun c_1 => ?_)
  · have c_1 := (nI_ltI (by omega) (by omega)).1 c_1
    refine lv_iload_n hx hb dX4_gaps_33 rfl (lv_at hl 2 rfl) ?_
    exact z_iret (v := nI (gaps f b i)) hx hb hr hS (by rw [show i = 100 by omega]) (by omega) (by omega) dX4_gaps_34
  · have c_1 := mt (nI_ltI (by omega) (by omega)).2 c_1
    refine lv_iload_n hx hb dX4_gaps_10 rfl (lv_at hl 2 rfl) ?_
    refine lv_aload_n hx hb dX4_gaps_11 rfl (lv_at hl 0 rfl) ?_
    refine lv_iload_n hx hb dX4_gaps_12 rfl (lv_at hl 1 rfl) ?_
    refine lv_iload_n hx hb dX4_gaps_13 rfl (lv_at hl 3 rfl) ?_
    refine z_cVi (As := [.int (nI (b)), .int (nI (i + 1))]) (rest := [.int (nI (gaps f b i))]) ⟨hx, hb, hml, hown, hts⟩ (mX4_isGap l D dA ad H.size m0 sa pa ha xa ta v3 v4 v6 v7 v8 v9 v10 v11 v12 f b (i + 1) (by omega) (by omega) (by omega)) (cwV 2 hts (lw_V q1428 q1430 qs31 q67 q1431) rfl rfl rfl (by decide +kernel) ⟨Nat.le_of_ble_eq_true rfl, Nat.le_of_ble_eq_true rfl⟩) hC hS (fun _ h => hA _ (Nat.le_trans hS.1 h)) (hP.sub (ws' := [(m0, .inr (4, [.ref sa, .ref pa, .ref ha, .int v3, .int v4, .ref xa, .int v6, .int v7, .int v8, .int v9, .int v10, .int v11, .int v12, .ref ta])), (sa, .inl (dA 0, 718, .inl f))]) [0, 1] rfl) (va_recv hK hP (ci := 4) (q0 := 0) rfl rfl) rfl rfl hl.1 (Nat.le_of_ble_eq_true rfl) dX4_gaps_14 ⟨Nat.le_of_ble_eq_true rfl, Nat.le_of_ble_eq_true rfl⟩ (fun r_2 H locs hQ hF hS => ?_)
    have hP := va_P.ro hF hP
    obtain rfl : bI (gpf f b (i + 1)) = r_2 := hQ.symm
    refine lv_if_eq (tgt := 24) hx hb dX4_gaps_17 (by decide) (fun c_3 => ?_) (fun c_3 => ?_)
    · have c_3 := bI_0.1 c_3
      refine lv_iconst (v := nI (0)) hx hb dX4_gaps_24 (by decide) ?_
      refine lv_iadd hx hb dX4_gaps_25 ?_
      refine lv_tope (y := nI ((gaps f b i) + 0)) (nI_add _ _) ?_
      refine lv_tope (y := nI (gaps f b (i + 1))) (by simp only [gaps]; split <;> first | rfl | contradiction) ?_
      refine lv_istore_n (lv' := [(2, .int (nI (gaps f b (i + 1)))), (0, .ref m0), (1, .int (nI (b))), (3, .int (nI (i + 1)))]) hx hb dX4_gaps_26 rfl hl (by decide) rfl (fun ls hl => ?_)
      refine lv_iinc (v := nI (i + 1 + 1)) (lv' := [(3, .int (nI (i + 1 + 1))), (2, .int (nI (gaps f b (i + 1)))), (0, .ref m0), (1, .int (nI (b)))]) hx hb dX4_gaps_27 hl (k := 3) rfl (nI_add _ _) (by decide) rfl (fun ls hl => ?_)
      refine lv_goto (tgt := 4) hx hb dX4_gaps_30 (by decide) ?_
      exact ih_4 (i + 1) H locs ls ⟨hP, hS, (lv_sub (l' := [(0, .ref m0), (1, .int (nI (b))), (2, .int (nI (gaps f b (i + 1)))), (3, .int (nI ((i + 1) + 1)))]) hl [2, 3, 1, 0] rfl), by omega⟩ (by omega)
    · have c_3 := bI_1.1 c_3
      refine lv_iconst (v := nI (1)) hx hb dX4_gaps_20 (by decide) ?_
      refine lv_goto (tgt := 25) hx hb dX4_gaps_21 (by decide) ?_
      refine lv_iadd hx hb dX4_gaps_25 ?_
      refine lv_tope (y := nI ((gaps f b i) + 1)) (nI_add _ _) ?_
      refine lv_tope (y := nI (gaps f b (i + 1))) (by simp only [gaps]; split <;> first | rfl | contradiction) ?_
      refine lv_istore_n (lv' := [(2, .int (nI (gaps f b (i + 1)))), (0, .ref m0), (1, .int (nI (b))), (3, .int (nI (i + 1)))]) hx hb dX4_gaps_26 rfl hl (by decide) rfl (fun ls hl => ?_)
      refine lv_iinc (v := nI (i + 1 + 1)) (lv' := [(3, .int (nI (i + 1 + 1))), (2, .int (nI (gaps f b (i + 1)))), (0, .ref m0), (1, .int (nI (b)))]) hx hb dX4_gaps_27 hl (k := 3) rfl (nI_add _ _) (by decide) rfl (fun ls hl => ?_)
      refine lv_goto (tgt := 4) hx hb dX4_gaps_30 (by decide) ?_
      exact ih_4 (i + 1) H locs ls ⟨hP, hS, (lv_sub (l' := [(0, .ref m0), (1, .int (nI (b))), (2, .int (nI (gaps f b (i + 1)))), (3, .int (nI ((i + 1) + 1)))]) hl [2, 3, 1, 0] rfl), by omega⟩ (by omega)

set_option maxHeartbeats 4000000 in
set_option maxRecDepth 100000 in
theorem mX4_lowestGap (l : Launch) (D : va_G) (dA : Nat → ClassId) (ad : Nat → Nat) (sz : Nat) (m0 : Nat) (sa : Nat) (pa : Nat) (ha : Nat) (xa : Nat) (ta : Nat) (v3 : Int32) (v4 : Int32) (v6 : Int32) (v7 : Int32) (v8 : Int32) (v9 : Int32) (v10 : Int32) (v11 : Int32) (v12 : Int32) (f : Nat → Int32) (b : Nat) (h1 : b < 2) : Met l yX4_lowestGap (ws_ yX4_lowestGap cX4_lowestGap 3 (some .int)) ({ frames := 1, cells := 0, slots := 0, locals := 30 }) (va_Pc [.ref m0, .int (nI (b))] (zP D dA ad (fun q => sz ≤ q) sz (fun H => va_P D vwCl [(m0, .inr (4, [.ref sa, .ref pa, .ref ha, .int v3, .int v4, .ref xa, .int v6, .int v7, .int v8, .int v9, .int v10, .int v11, .int v12, .ref ta])), (sa, .inl (dA 0, 718, .inl f))] H))) (zQi (fun rz H => rz = lowG f b) (fun q => sz ≤ q)) (0) (0) (fun q => sz ≤ q) := by
  refine Met.ofW (cc := cX4_lowestGap) (maxL := 3) (ret := (some .int)) (by decide) rfl ?_
  intro p e s m args below meth c s₁ B hml hv
  obtain ⟨rfl, hsz, hC, hP⟩ := hv
  have hx := B.exec
  have hb := B.bytes
  have hr := B.returns
  have hts := atoms_spec (ws := ws_ yX4_lowestGap cX4_lowestGap 3 (some .int)) B.pre
  have hts : ∀ w ∈ lw_all, w.before _ s = true := fun w h => hts w (List.mem_cons_of_mem _ h)
  have hown : s.vm.findClass RX4 = some m.cls := findClass_of_methodNamed B.named
  have hlocks := B.notSynchronized
  subst hsz
  have hK := hC.K
  have hA : ∀ q : Nat, s.heap.size ≤ q → s.heap.size ≤ q := fun _ h => h
  have hS : va_S (fun q => s.heap.size ≤ q) s.heap s.heap [] := va_S.rf
  have hP : va_P D vwCl [(m0, .inr (4, [.ref sa, .ref pa, .ref ha, .int v3, .int v4, .ref xa, .int v6, .int v7, .int v8, .int v9, .int v10, .int v11, .int v12, .ref ta])), (sa, .inl (dA 0, 718, .inl f))] s.heap := hP
  have hl := lv_entry ([.ref m0, .int (nI (b))]) (n := 3) (Nat.le_of_ble_eq_true rfl)
  rw [lg_entry_eq]
  generalize (lg_sl ([.ref m0, .int (nI (b))]) ++ List.replicate (3 - (lg_sl ([.ref m0, .int (nI (b))])).length) Slot.unset).toArray = ls at hl ⊢
  have hl : lv_has ls 3 [(0, .ref m0), (1, .int (nI (b)))] := hl
  refine lv_iconst (v := nI (1)) hx hb dX4_lowestGap_0 (by decide) ?_
  refine lv_istore_n (lv' := [(2, .int (nI (1))), (0, .ref m0), (1, .int (nI (b)))]) hx hb dX4_lowestGap_1 rfl hl (by decide) rfl (fun ls hl => ?_)
  refine z_loop (σ := Nat) (fun i => 100 - i) (fun i H locs ls => va_P D vwCl [(m0, .inr (4, [.ref sa, .ref pa, .ref ha, .int v3, .int v4, .ref xa, .int v6, .int v7, .int v8, .int v9, .int v10, .int v11, .int v12, .ref ta])), (sa, .inl (dA 0, 718, .inl f))] H ∧ va_S (fun q => s.heap.size ≤ q) s.heap H locs ∧ lv_has ls 3 [(0, .ref m0), (1, .int (nI (b))), (2, .int (nI (i + 1)))] ∧ i ≤ 100 ∧ lowGap f b 100 0 = lowGap f b (100 - i) i) (0) ⟨hP, hS, (lv_sub (l' := [(0, .ref m0), (1, .int (nI (b))), (2, .int (nI (0 + 1)))]) hl [1, 2, 0] rfl), by omega, rfl⟩ ?_
  intro i H locs ls ⟨hP, hS, hl, hi, hi2⟩ ih_2
  refine lv_iload_n hx hb dX4_lowestGap_2 rfl (lv_at hl 2 rfl) ?_
  refine lv_bipush (v := nI (100)) hx hb dX4_lowestGap_3 (by decide) ?_
  refine lv_icmp_gt (tgt := 25) hx hb dX4_lowestGap_5 (by decide) (fun c_1 => ?_) (fun c_1 => ?_)
  · have c_1 := (nI_ltI (by omega) (by omega)).1 c_1
    refine lv_ldc (v := (-1000004)) hx hb hown (hts _ q1408) dX4_lowestGap_25 ?_
    exact z_iret (v := (-1000004)) hx hb hr hS (by unfold lowG; rw [hi2, show i = 100 by omega]; rfl) (by omega) (by omega) dX4_lowestGap_27
  · have c_1 := mt (nI_ltI (by omega) (by omega)).2 c_1
    have hstep : lowGap f b (100 - i) i = if gpf f b (i + 1) then i + 1 else lowGap f b (100 - (i + 1)) (i + 1) := by rw [show 100 - i = (100 - (i + 1)) + 1 by omega]; rfl
    refine lv_aload_n hx hb dX4_lowestGap_8 rfl (lv_at hl 0 rfl) ?_
    refine lv_iload_n hx hb dX4_lowestGap_9 rfl (lv_at hl 1 rfl) ?_
    refine lv_iload_n hx hb dX4_lowestGap_10 rfl (lv_at hl 2 rfl) ?_
    refine z_cVi (As := [.int (nI (b)), .int (nI (i + 1))]) (rest := []) ⟨hx, hb, hml, hown, hts⟩ (mX4_isGap l D dA ad H.size m0 sa pa ha xa ta v3 v4 v6 v7 v8 v9 v10 v11 v12 f b (i + 1) (by omega) (by omega) (by omega)) (cwV 2 hts (lw_V q1428 q1430 qs31 q67 q1431) rfl rfl rfl (by decide +kernel) ⟨Nat.le_of_ble_eq_true rfl, Nat.le_of_ble_eq_true rfl⟩) hC hS (fun _ h => hA _ (Nat.le_trans hS.1 h)) (hP.sub (ws' := [(m0, .inr (4, [.ref sa, .ref pa, .ref ha, .int v3, .int v4, .ref xa, .int v6, .int v7, .int v8, .int v9, .int v10, .int v11, .int v12, .ref ta])), (sa, .inl (dA 0, 718, .inl f))]) [0, 1] rfl) (va_recv hK hP (ci := 4) (q0 := 0) rfl rfl) rfl rfl hl.1 (Nat.le_of_ble_eq_true rfl) dX4_lowestGap_11 ⟨Nat.le_of_ble_eq_true rfl, Nat.le_of_ble_eq_true rfl⟩ (fun r_2 H locs hQ hF hS => ?_)
    have hP := va_P.ro hF hP
    obtain rfl : bI (gpf f b (i + 1)) = r_2 := hQ.symm
    refine lv_if_eq (tgt := 19) hx hb dX4_lowestGap_14 (by decide) (fun c_3 => ?_) (fun c_3 => ?_)
    · have c_3 := bI_0.1 c_3
      refine lv_iinc (v := nI (i + 1 + 1)) (lv' := [(2, .int (nI (i + 1 + 1))), (0, .ref m0), (1, .int (nI (b)))]) hx hb dX4_lowestGap_19 hl (k := 2) rfl (nI_add _ _) (by decide) rfl (fun ls hl => ?_)
      refine lv_goto (tgt := 2) hx hb dX4_lowestGap_22 (by decide) ?_
      exact ih_2 (i + 1) H locs ls ⟨hP, hS, (lv_sub (l' := [(0, .ref m0), (1, .int (nI (b))), (2, .int (nI ((i + 1) + 1)))]) hl [1, 2, 0] rfl), by omega, by rw [hi2, hstep, if_neg c_3]⟩ (by omega)
    · have c_3 := bI_1.1 c_3
      refine lv_iload_n hx hb dX4_lowestGap_17 rfl (lv_at hl 2 rfl) ?_
      exact z_iret (v := nI (i + 1)) hx hb hr hS (by unfold lowG; rw [hi2, hstep, if_pos c_3, if_neg (show ¬ i + 1 = 0 by omega)]) (by omega) (by omega) dX4_lowestGap_18

set_option maxHeartbeats 4000000 in
set_option maxRecDepth 100000 in
theorem mX4_goes (l : Launch) (D : va_G) (dA : Nat → ClassId) (ad : Nat → Nat) (sz : Nat) (m0 : Nat) (sa : Nat) (pa : Nat) (ha : Nat) (xa : Nat) (ta : Nat) (v3 : Int32) (v4 : Int32) (v6 : Int32) (v7 : Int32) (v8 : Int32) (v9 : Int32) (v10 : Int32) (v11 : Int32) (v12 : Int32) (f : Nat → Int32) (b : Nat) (p0 : Nat) (tk : Int32) (k : Nat) (rc : Nat) (h1 : b < 2) (hrc : sbf f b 0 = nI rc) (hrl : rc ≤ 100) (hp : p0 ≤ 100) (hk : k ≤ 100) : Met l yX4_goes (ws_ yX4_goes cX4_goes 8 (some .int)) ({ frames := 1, cells := 0, slots := 0, locals := 30 }) (va_Pc [.ref m0, .int (nI (b)), .int (nI (p0)), .int tk, .int (nI (k))] (zP D dA ad (fun q => sz ≤ q) sz (fun H => va_P D vwCl [(m0, .inr (4, [.ref sa, .ref pa, .ref ha, .int v3, .int v4, .ref xa, .int v6, .int v7, .int v8, .int v9, .int v10, .int v11, .int v12, .ref ta])), (sa, .inl (dA 0, 718, .inl f))] H))) (zQi (fun rz H => rz = nI (goesA f b tk k p0)) (fun q => sz ≤ q)) (0) (0) (fun q => sz ≤ q) := by
  refine Met.ofW (cc := cX4_goes) (maxL := 8) (ret := (some .int)) (by decide) rfl ?_
  intro p e s m args below meth c s₁ B hml hv
  obtain ⟨rfl, hsz, hC, hP⟩ := hv
  have hx := B.exec
  have hb := B.bytes
  have hr := B.returns
  have hts := atoms_spec (ws := ws_ yX4_goes cX4_goes 8 (some .int)) B.pre
  have hts : ∀ w ∈ lw_all, w.before _ s = true := fun w h => hts w (List.mem_cons_of_mem _ h)
  have hown : s.vm.findClass RX4 = some m.cls := findClass_of_methodNamed B.named
  have hlocks := B.notSynchronized
  subst hsz
  have hK := hC.K
  have hA : ∀ q : Nat, s.heap.size ≤ q → s.heap.size ≤ q := fun _ h => h
  have hS : va_S (fun q => s.heap.size ≤ q) s.heap s.heap [] := va_S.rf
  have hP : va_P D vwCl [(m0, .inr (4, [.ref sa, .ref pa, .ref ha, .int v3, .int v4, .ref xa, .int v6, .int v7, .int v8, .int v9, .int v10, .int v11, .int v12, .ref ta])), (sa, .inl (dA 0, 718, .inl f))] s.heap := hP
  have hl := lv_entry ([.ref m0, .int (nI (b)), .int (nI (p0)), .int tk, .int (nI (k))]) (n := 8) (Nat.le_of_ble_eq_true rfl)
  rw [lg_entry_eq]
  generalize (lg_sl ([.ref m0, .int (nI (b)), .int (nI (p0)), .int tk, .int (nI (k))]) ++ List.replicate (8 - (lg_sl ([.ref m0, .int (nI (b)), .int (nI (p0)), .int tk, .int (nI (k))])).length) Slot.unset).toArray = ls at hl ⊢
  have hl : lv_has ls 8 [(0, .ref m0), (1, .int (nI (b))), (2, .int (nI (p0))), (3, .int tk), (4, .int (nI (k)))] := hl
  refine lv_iconst (v := nI (0)) hx hb dX4_goes_0 (by decide) ?_
  refine lv_istore (lv' := [(5, .int (nI (0))), (0, .ref m0), (1, .int (nI (b))), (2, .int (nI (p0))), (3, .int tk), (4, .int (nI (k)))]) hx hb dX4_goes_1 hl (by decide) rfl (fun ls hl => ?_)
  refine lv_aload_n hx hb dX4_goes_3 rfl (lv_at hl 1 rfl) ?_
  refine lv_iload_n hx hb dX4_goes_4 rfl (lv_at hl 2 rfl) ?_
  refine lv_iconst (v := nI (2)) hx hb dX4_goes_5 (by decide) ?_
  refine z_cVi (As := [.int (nI (b)), .int (nI (2))]) (rest := []) ⟨hx, hb, hml, hown, hts⟩ (mX4_ofStandby l D dA ad s.heap.size m0 sa pa ha xa ta v3 v4 v6 v7 v8 v9 v10 v11 v12 f b 2 (by omega) (by omega)) (cwV 2 hts (lw_V q1420 q1422 qs30 q67 q1423) rfl rfl rfl (by decide +kernel) ⟨Nat.le_of_ble_eq_true rfl, Nat.le_of_ble_eq_true rfl⟩) hC hS (fun _ h => hA _ (Nat.le_trans hS.1 h)) (hP.sub (ws' := [(m0, .inr (4, [.ref sa, .ref pa, .ref ha, .int v3, .int v4, .ref xa, .int v6, .int v7, .int v8, .int v9, .int v10, .int v11, .int v12, .ref ta])), (sa, .inl (dA 0, 718, .inl f))]) [0, 1] rfl) (va_recv hK hP (ci := 4) (q0 := 0) rfl rfl) rfl rfl hl.1 (Nat.le_of_ble_eq_true rfl) dX4_goes_6 ⟨Nat.le_of_ble_eq_true rfl, Nat.le_of_ble_eq_true rfl⟩ (fun r_1 H locs hQ hF hS => ?_)
  have hP := va_P.ro hF hP
  obtain rfl : sbf f b 2 = r_1 := hQ.symm
  refine lv_if_ne (tgt := 16) hx hb dX4_goes_9 (by decide) (fun c_2 => ?_) (fun c_2 => ?_)
  · refine lv_iconst (v := nI (0)) hx hb dX4_goes_16 (by decide) ?_
    refine lv_istore (lv' := [(6, .int (nI (0))), (5, .int (nI (0))), (0, .ref m0), (1, .int (nI (b))), (2, .int (nI (p0))), (3, .int tk), (4, .int (nI (k)))]) hx hb dX4_goes_17 hl (by decide) rfl (fun ls hl => ?_)
    refine lv_iload hx hb dX4_goes_19 (lv_at hl 0 rfl) ?_
    refine lv_if_eq (tgt := 104) hx hb dX4_goes_21 (by decide) (fun c_3 => ?_) (fun c_3 => ?_)
    · refine lv_iload hx hb dX4_goes_104 (lv_at hl 1 rfl) ?_
      exact z_iret (v := nI (0)) hx hb hr hS (by simp [goesA, *]) (by omega) (by omega) dX4_goes_106
    · exact absurd c_3 (by decide)
  · refine lv_iconst (v := nI (1)) hx hb dX4_goes_12 (by decide) ?_
    refine lv_goto (tgt := 17) hx hb dX4_goes_13 (by decide) ?_
    refine lv_istore (lv' := [(6, .int (nI (1))), (5, .int (nI (0))), (0, .ref m0), (1, .int (nI (b))), (2, .int (nI (p0))), (3, .int tk), (4, .int (nI (k)))]) hx hb dX4_goes_17 hl (by decide) rfl (fun ls hl => ?_)
    refine z_loop (σ := Nat) (fun i => k - i) (fun i H locs ls => va_P D vwCl [(m0, .inr (4, [.ref sa, .ref pa, .ref ha, .int v3, .int v4, .ref xa, .int v6, .int v7, .int v8, .int v9, .int v10, .int v11, .int v12, .ref ta])), (sa, .inl (dA 0, 718, .inl f))] H ∧ va_S (fun q => s.heap.size ≤ q) s.heap H locs ∧ lv_has ls 8 [(0, .ref m0), (1, .int (nI (b))), (2, .int (nI (p0))), (3, .int tk), (4, .int (nI (k))), (5, .int (nI (i))), (6, .int (nI (1)))] ∧ i ≤ k ∧ goesA f b tk k p0 = i + goesN f b tk (k - i) (p0 + i)) (0) ⟨hP, hS, (lv_sub (l' := [(0, .ref m0), (1, .int (nI (b))), (2, .int (nI (p0))), (3, .int tk), (4, .int (nI (k))), (5, .int (nI (0))), (6, .int (nI (1)))]) hl [2, 3, 4, 5, 6, 1, 0] rfl), by omega, by simp [goesA, *]⟩ ?_
    intro i H locs ls ⟨hP, hS, hl, hi, hgo⟩ ih_19
    refine lv_iload hx hb dX4_goes_19 (lv_at hl 6 rfl) ?_
    refine lv_if_eq (tgt := 104) hx hb dX4_goes_21 (by decide) (fun c_4 => ?_) (fun c_4 => ?_)
    · exact absurd c_4 (by decide)
    · refine lv_iload hx hb dX4_goes_24 (lv_at hl 5 rfl) ?_
      refine lv_iload hx hb dX4_goes_26 (lv_at hl 4 rfl) ?_
      refine lv_icmp_ge (tgt := 104) hx hb dX4_goes_28 (by decide) (fun c_5 => ?_) (fun c_5 => ?_)
      · have c_5 := (nI_leI (by omega) (by omega)).1 c_5
        refine lv_iload hx hb dX4_goes_104 (lv_at hl 5 rfl) ?_
        exact z_iret (v := nI (i)) hx hb hr hS (by rw [hgo, show k - i = 0 by omega]; rfl) (by omega) (by omega) dX4_goes_106
      · have c_5 := mt (nI_leI (by omega) (by omega)).2 c_5
        have hstep : goesN f b tk (k - i) (p0 + i) = if okGo f b (p0 + i) tk then goesN f b tk (k - (i + 1)) (p0 + (i + 1)) + 1 else 0 := by rw [show k - i = (k - (i + 1)) + 1 by omega]; rfl
        refine lv_iload_n hx hb dX4_goes_31 rfl (lv_at hl 2 rfl) ?_
        refine lv_iload hx hb dX4_goes_32 (lv_at hl 5 rfl) ?_
        refine lv_iadd hx hb dX4_goes_34 ?_
        refine lv_tope (y := nI (p0 + i)) (nI_add _ _) ?_
        refine lv_iconst (v := nI (1)) hx hb dX4_goes_35 (by decide) ?_
        refine lv_iadd hx hb dX4_goes_36 ?_
        refine lv_tope (y := nI ((p0 + i) + 1)) (nI_add _ _) ?_
        refine lv_istore (lv' := [(7, .int (nI ((p0 + i) + 1))), (0, .ref m0), (1, .int (nI (b))), (2, .int (nI (p0))), (3, .int tk), (4, .int (nI (k))), (5, .int (nI (i))), (6, .int (nI (1)))]) hx hb dX4_goes_37 hl (by decide) rfl (fun ls hl => ?_)
        refine lv_iload hx hb dX4_goes_39 (lv_at hl 0 rfl) ?_
        refine lv_aload_n hx hb dX4_goes_41 rfl (lv_at hl 1 rfl) ?_
        refine lv_iload_n hx hb dX4_goes_42 rfl (lv_at hl 2 rfl) ?_
        refine lv_iconst (v := nI (0)) hx hb dX4_goes_43 (by decide) ?_
        refine z_cVi (As := [.int (nI (b)), .int (nI (0))]) (rest := [.int (nI ((p0 + i) + 1))]) ⟨hx, hb, hml, hown, hts⟩ (mX4_ofStandby l D dA ad H.size m0 sa pa ha xa ta v3 v4 v6 v7 v8 v9 v10 v11 v12 f b 0 (by omega) (by omega)) (cwV 2 hts (lw_V q1420 q1422 qs30 q67 q1423) rfl rfl rfl (by decide +kernel) ⟨Nat.le_of_ble_eq_true rfl, Nat.le_of_ble_eq_true rfl⟩) hC hS (fun _ h => hA _ (Nat.le_trans hS.1 h)) (hP.sub (ws' := [(m0, .inr (4, [.ref sa, .ref pa, .ref ha, .int v3, .int v4, .ref xa, .int v6, .int v7, .int v8, .int v9, .int v10, .int v11, .int v12, .ref ta])), (sa, .inl (dA 0, 718, .inl f))]) [0, 1] rfl) (va_recv hK hP (ci := 4) (q0 := 0) rfl rfl) rfl rfl hl.1 (Nat.le_of_ble_eq_true rfl) dX4_goes_44 ⟨Nat.le_of_ble_eq_true rfl, Nat.le_of_ble_eq_true rfl⟩ (fun r_6 H locs hQ hF hS => ?_)
        have hP := va_P.ro hF hP
        obtain rfl : sbf f b 0 = r_6 := hQ.symm
        refine lv_icmp_gt (tgt := 83) hx hb dX4_goes_47 (by decide) (fun c_7 => ?_) (fun c_7 => ?_)
        · refine lv_iconst (v := nI (0)) hx hb dX4_goes_83 (by decide) ?_
          refine lv_istore (lv' := [(6, .int (nI (0))), (7, .int (nI ((p0 + i) + 1))), (0, .ref m0), (1, .int (nI (b))), (2, .int (nI (p0))), (3, .int tk), (4, .int (nI (k))), (5, .int (nI (i)))]) hx hb dX4_goes_84 hl (by decide) rfl (fun ls hl => ?_)
          refine lv_iload hx hb dX4_goes_86 (lv_at hl 7 rfl) ?_
          refine lv_iload hx hb dX4_goes_88 (lv_at hl 0 rfl) ?_
          refine lv_if_eq (tgt := 97) hx hb dX4_goes_90 (by decide) (fun c_8 => ?_) (fun c_8 => ?_)
          · refine lv_iconst (v := nI (0)) hx hb dX4_goes_97 (by decide) ?_
            refine lv_iadd hx hb dX4_goes_98 ?_
            refine lv_tope (y := nI (i + 0)) (nI_add _ _) ?_
            refine lv_istore (lv' := [(5, .int (nI (i + 0))), (6, .int (nI (0))), (7, .int (nI ((p0 + i) + 1))), (0, .ref m0), (1, .int (nI (b))), (2, .int (nI (p0))), (3, .int tk), (4, .int (nI (k)))]) hx hb dX4_goes_99 hl (by decide) rfl (fun ls hl => ?_)
            refine lv_goto (tgt := 19) hx hb dX4_goes_101 (by decide) ?_
            refine lv_iload hx hb dX4_goes_19 (lv_at hl 1 rfl) ?_
            refine lv_if_eq (tgt := 104) hx hb dX4_goes_21 (by decide) (fun c_9 => ?_) (fun c_9 => ?_)
            · refine lv_iload hx hb dX4_goes_104 (lv_at hl 0 rfl) ?_
              exact z_iret (v := nI (i + 0)) hx hb hr hS (by rw [hgo, hstep, if_neg (fun q => absurd q.1 (Int32.not_le.2 c_7))]) (by omega) (by omega) dX4_goes_106
            · exact absurd c_9 (by decide)
          · exact absurd c_8 (by decide)
        · have hA1 := Int32.not_lt.1 c_7
          have hr9 : p0 + i + 1 ≤ rc := (nI_leI (by omega) (by omega)).1 (by rw [← hrc]; exact hA1)
          refine lv_aload_n hx hb dX4_goes_50 rfl (lv_at hl 1 rfl) ?_
          refine lv_iload_n hx hb dX4_goes_51 rfl (lv_at hl 2 rfl) ?_
          refine lv_iload hx hb dX4_goes_52 (lv_at hl 0 rfl) ?_
          refine z_cVi (As := [.int (nI (b)), .int (nI ((p0 + i) + 1))]) (rest := []) ⟨hx, hb, hml, hown, hts⟩ (mX4_isGap l D dA ad H.size m0 sa pa ha xa ta v3 v4 v6 v7 v8 v9 v10 v11 v12 f b ((p0 + i) + 1) (by omega) (by omega) (by omega)) (cwV 2 hts (lw_V q1428 q1430 qs31 q67 q1431) rfl rfl rfl (by decide +kernel) ⟨Nat.le_of_ble_eq_true rfl, Nat.le_of_ble_eq_true rfl⟩) hC hS (fun _ h => hA _ (Nat.le_trans hS.1 h)) (hP.sub (ws' := [(m0, .inr (4, [.ref sa, .ref pa, .ref ha, .int v3, .int v4, .ref xa, .int v6, .int v7, .int v8, .int v9, .int v10, .int v11, .int v12, .ref ta])), (sa, .inl (dA 0, 718, .inl f))]) [0, 1] rfl) (va_recv hK hP (ci := 4) (q0 := 0) rfl rfl) rfl rfl hl.1 (Nat.le_of_ble_eq_true rfl) dX4_goes_54 ⟨Nat.le_of_ble_eq_true rfl, Nat.le_of_ble_eq_true rfl⟩ (fun r_10 H locs hQ hF hS => ?_)
          have hP := va_P.ro hF hP
          obtain rfl : bI (gpf f b ((p0 + i) + 1)) = r_10 := hQ.symm
          refine lv_if_ne (tgt := 83) hx hb dX4_goes_57 (by decide) (fun c_11 => ?_) (fun c_11 => ?_)
          · have c_11 := bI_1.1 c_11
            refine lv_iconst (v := nI (0)) hx hb dX4_goes_83 (by decide) ?_
            refine lv_istore (lv' := [(6, .int (nI (0))), (7, .int (nI ((p0 + i) + 1))), (0, .ref m0), (1, .int (nI (b))), (2, .int (nI (p0))), (3, .int tk), (4, .int (nI (k))), (5, .int (nI (i)))]) hx hb dX4_goes_84 hl (by decide) rfl (fun ls hl => ?_)
            refine lv_iload hx hb dX4_goes_86 (lv_at hl 7 rfl) ?_
            refine lv_iload hx hb dX4_goes_88 (lv_at hl 0 rfl) ?_
            refine lv_if_eq (tgt := 97) hx hb dX4_goes_90 (by decide) (fun c_12 => ?_) (fun c_12 => ?_)
            · refine lv_iconst (v := nI (0)) hx hb dX4_goes_97 (by decide) ?_
              refine lv_iadd hx hb dX4_goes_98 ?_
              refine lv_tope (y := nI (i + 0)) (nI_add _ _) ?_
              refine lv_istore (lv' := [(5, .int (nI (i + 0))), (6, .int (nI (0))), (7, .int (nI ((p0 + i) + 1))), (0, .ref m0), (1, .int (nI (b))), (2, .int (nI (p0))), (3, .int tk), (4, .int (nI (k)))]) hx hb dX4_goes_99 hl (by decide) rfl (fun ls hl => ?_)
              refine lv_goto (tgt := 19) hx hb dX4_goes_101 (by decide) ?_
              refine lv_iload hx hb dX4_goes_19 (lv_at hl 1 rfl) ?_
              refine lv_if_eq (tgt := 104) hx hb dX4_goes_21 (by decide) (fun c_13 => ?_) (fun c_13 => ?_)
              · refine lv_iload hx hb dX4_goes_104 (lv_at hl 0 rfl) ?_
                exact z_iret (v := nI (i + 0)) hx hb hr hS (by rw [hgo, hstep, if_neg (fun q => absurd c_11 q.2.1)]) (by omega) (by omega) dX4_goes_106
              · exact absurd c_13 (by decide)
            · exact absurd c_12 (by decide)
          · have c_11 := bI_0.1 c_11
            have hA2 := c_11
            refine lv_iload_n hx hb dX4_goes_60 rfl (lv_at hl 4 rfl) ?_
            refine lv_aload_n hx hb dX4_goes_61 rfl (lv_at hl 1 rfl) ?_
            refine lv_iload hx hb dX4_goes_62 (lv_at hl 0 rfl) ?_
            refine lv_iconst (v := nI (4)) hx hb dX4_goes_64 (by decide) ?_
            refine z_cVi (As := [.int (nI ((p0 + i) + 1)), .int (nI (4))]) (rest := [.int tk]) ⟨hx, hb, hml, hown, hts⟩ (mX4_ofRecord l D dA ad H.size m0 sa pa ha xa ta v3 v4 v6 v7 v8 v9 v10 v11 v12 f ((p0 + i) + 1) 4 (by omega) (by omega) (by omega)) (cwV 2 hts (lw_V q1452 q1454 qs35 q67 q1455) rfl rfl rfl (by decide +kernel) ⟨Nat.le_of_ble_eq_true rfl, Nat.le_of_ble_eq_true rfl⟩) hC hS (fun _ h => hA _ (Nat.le_trans hS.1 h)) (hP.sub (ws' := [(m0, .inr (4, [.ref sa, .ref pa, .ref ha, .int v3, .int v4, .ref xa, .int v6, .int v7, .int v8, .int v9, .int v10, .int v11, .int v12, .ref ta])), (sa, .inl (dA 0, 718, .inl f))]) [0, 1] rfl) (va_recv hK hP (ci := 4) (q0 := 0) rfl rfl) rfl rfl hl.1 (Nat.le_of_ble_eq_true rfl) dX4_goes_65 ⟨Nat.le_of_ble_eq_true rfl, Nat.le_of_ble_eq_true rfl⟩ (fun r_14 H locs hQ hF hS => ?_)
            have hP := va_P.ro hF hP
            obtain rfl : rcf f ((p0 + i) + 1) 4 = r_14 := hQ.symm
            refine lv_isub hx hb dX4_goes_68 ?_
            refine lv_aload_n hx hb dX4_goes_69 rfl (lv_at hl 1 rfl) ?_
            refine va_get (D := D) (ci := 4) (v := .ref sa) (C := RX4) (T := TX4) (N := 14) hx hb hts in_X4 hown hK hP 0 rfl rfl 0 (by decide) (hts _ q1329) (fun _ h9 => h9) rfl dX4_goes_70 ?_
            refine lv_bipush (v := nI (8)) hx hb dX4_goes_73 (by decide) ?_
            refine va_iald hx hb hK hP 1 0 rfl rfl (vp_in_nI (by omega) (by omega)) dX4_goes_75 ?_
            refine lv_tope (y := f 8) (by rw [nI_clamp (by omega)]) ?_
            refine lv_icmp_lt (tgt := 83) hx hb dX4_goes_76 (by decide) (fun c_15 => ?_) (fun c_15 => ?_)
            · refine lv_iconst (v := nI (0)) hx hb dX4_goes_83 (by decide) ?_
              refine lv_istore (lv' := [(6, .int (nI (0))), (7, .int (nI ((p0 + i) + 1))), (0, .ref m0), (1, .int (nI (b))), (2, .int (nI (p0))), (3, .int tk), (4, .int (nI (k))), (5, .int (nI (i)))]) hx hb dX4_goes_84 hl (by decide) rfl (fun ls hl => ?_)
              refine lv_iload hx hb dX4_goes_86 (lv_at hl 7 rfl) ?_
              refine lv_iload hx hb dX4_goes_88 (lv_at hl 0 rfl) ?_
              refine lv_if_eq (tgt := 97) hx hb dX4_goes_90 (by decide) (fun c_16 => ?_) (fun c_16 => ?_)
              · refine lv_iconst (v := nI (0)) hx hb dX4_goes_97 (by decide) ?_
                refine lv_iadd hx hb dX4_goes_98 ?_
                refine lv_tope (y := nI (i + 0)) (nI_add _ _) ?_
                refine lv_istore (lv' := [(5, .int (nI (i + 0))), (6, .int (nI (0))), (7, .int (nI ((p0 + i) + 1))), (0, .ref m0), (1, .int (nI (b))), (2, .int (nI (p0))), (3, .int tk), (4, .int (nI (k)))]) hx hb dX4_goes_99 hl (by decide) rfl (fun ls hl => ?_)
                refine lv_goto (tgt := 19) hx hb dX4_goes_101 (by decide) ?_
                refine lv_iload hx hb dX4_goes_19 (lv_at hl 1 rfl) ?_
                refine lv_if_eq (tgt := 104) hx hb dX4_goes_21 (by decide) (fun c_17 => ?_) (fun c_17 => ?_)
                · refine lv_iload hx hb dX4_goes_104 (lv_at hl 0 rfl) ?_
                  exact z_iret (v := nI (i + 0)) hx hb hr hS (by rw [hgo, hstep, if_neg (fun q => absurd q.2.2 (Int32.not_le.2 c_15))]) (by omega) (by omega) dX4_goes_106
                · exact absurd c_17 (by decide)
              · exact absurd c_16 (by decide)
            · refine lv_iconst (v := nI (1)) hx hb dX4_goes_79 (by decide) ?_
              refine lv_goto (tgt := 84) hx hb dX4_goes_80 (by decide) ?_
              refine lv_istore (lv' := [(6, .int (nI (1))), (7, .int (nI ((p0 + i) + 1))), (0, .ref m0), (1, .int (nI (b))), (2, .int (nI (p0))), (3, .int tk), (4, .int (nI (k))), (5, .int (nI (i)))]) hx hb dX4_goes_84 hl (by decide) rfl (fun ls hl => ?_)
              refine lv_iload hx hb dX4_goes_86 (lv_at hl 7 rfl) ?_
              refine lv_iload hx hb dX4_goes_88 (lv_at hl 0 rfl) ?_
              refine lv_if_eq (tgt := 97) hx hb dX4_goes_90 (by decide) (fun c_18 => ?_) (fun c_18 => ?_)
              · exact absurd c_18 (by decide)
              · refine lv_iconst (v := nI (1)) hx hb dX4_goes_93 (by decide) ?_
                refine lv_goto (tgt := 98) hx hb dX4_goes_94 (by decide) ?_
                refine lv_iadd hx hb dX4_goes_98 ?_
                refine lv_tope (y := nI (i + 1)) (nI_add _ _) ?_
                refine lv_istore (lv' := [(5, .int (nI (i + 1))), (6, .int (nI (1))), (7, .int (nI ((p0 + i) + 1))), (0, .ref m0), (1, .int (nI (b))), (2, .int (nI (p0))), (3, .int tk), (4, .int (nI (k)))]) hx hb dX4_goes_99 hl (by decide) rfl (fun ls hl => ?_)
                refine lv_goto (tgt := 19) hx hb dX4_goes_101 (by decide) ?_
                exact ih_19 (i + 1) H locs ls ⟨hP, hS, (lv_sub (l' := [(0, .ref m0), (1, .int (nI (b))), (2, .int (nI (p0))), (3, .int tk), (4, .int (nI (k))), (5, .int (nI ((i + 1)))), (6, .int (nI (1)))]) hl [3, 4, 5, 6, 7, 0, 1] rfl), by omega, by rw [if_pos ⟨hA1, hA2, Int32.not_lt.1 (by assumption)⟩] at hstep; omega⟩ (by omega)

set_option maxHeartbeats 4000000 in
set_option maxRecDepth 100000 in
theorem mX4_until (l : Launch) (D : va_G) (dA : Nat → ClassId) (ad : Nat → Nat) (sz : Nat) (m0 : Nat) (sa : Nat) (pa : Nat) (ha : Nat) (xa : Nat) (ta : Nat) (v3 : Int32) (v4 : Int32) (v6 : Int32) (v7 : Int32) (v8 : Int32) (v9 : Int32) (v10 : Int32) (v11 : Int32) (v12 : Int32) (f : Nat → Int32) (b : Nat) (pos : Nat) (k : Nat) (most : Nat) (h1 : b < 2) (hI : InvA f) (hp : pos ≤ 100) (hk : k ≤ 100) (hm : most ≤ 1000) : Met l yX4_until (ws_ yX4_until cX4_until 7 (some .int)) ({ frames := 2, cells := 0, slots := 0, locals := 60 }) (va_Pc [.ref m0, .int (nI (b)), .int (nI (pos)), .int (nI (k)), .int (nI (most))] (zP D dA ad (fun q => sz ≤ q) sz (fun H => va_P D vwCl [(m0, .inr (4, [.ref sa, .ref pa, .ref ha, .int v3, .int v4, .ref xa, .int v6, .int v7, .int v8, .int v9, .int v10, .int v11, .int v12, .ref ta])), (sa, .inl (dA 0, 718, .inl f))] H))) (zQi (fun rz H => rz = untilN f b pos k (most + 1) (apN f b) 0) (fun q => sz ≤ q)) (0) (0) (fun q => sz ≤ q) := by
  refine Met.ofW (cc := cX4_until) (maxL := 7) (ret := (some .int)) (by decide) rfl ?_
  intro p e s m args below meth c s₁ B hml hv
  obtain ⟨rfl, hsz, hC, hP⟩ := hv
  have hx := B.exec
  have hb := B.bytes
  have hr := B.returns
  have hts := atoms_spec (ws := ws_ yX4_until cX4_until 7 (some .int)) B.pre
  have hts : ∀ w ∈ lw_all, w.before _ s = true := fun w h => hts w (List.mem_cons_of_mem _ h)
  have hown : s.vm.findClass RX4 = some m.cls := findClass_of_methodNamed B.named
  have hlocks := B.notSynchronized
  subst hsz
  have hK := hC.K
  have hA : ∀ q : Nat, s.heap.size ≤ q → s.heap.size ≤ q := fun _ h => h
  have hS : va_S (fun q => s.heap.size ≤ q) s.heap s.heap [] := va_S.rf
  have hP : va_P D vwCl [(m0, .inr (4, [.ref sa, .ref pa, .ref ha, .int v3, .int v4, .ref xa, .int v6, .int v7, .int v8, .int v9, .int v10, .int v11, .int v12, .ref ta])), (sa, .inl (dA 0, 718, .inl f))] s.heap := hP
  obtain ⟨hf0, hn, hsb, hrt, hrt2⟩ := hI
  obtain ⟨hrc, hap, har, hrl⟩ := hsb b h1
  have hl := lv_entry ([.ref m0, .int (nI (b)), .int (nI (pos)), .int (nI (k)), .int (nI (most))]) (n := 7) (Nat.le_of_ble_eq_true rfl)
  rw [lg_entry_eq]
  generalize (lg_sl ([.ref m0, .int (nI (b)), .int (nI (pos)), .int (nI (k)), .int (nI (most))]) ++ List.replicate (7 - (lg_sl ([.ref m0, .int (nI (b)), .int (nI (pos)), .int (nI (k)), .int (nI (most))])).length) Slot.unset).toArray = ls at hl ⊢
  have hl : lv_has ls 7 [(0, .ref m0), (1, .int (nI (b))), (2, .int (nI (pos))), (3, .int (nI (k))), (4, .int (nI (most)))] := hl
  refine lv_aload_n hx hb dX4_until_0 rfl (lv_at hl 0 rfl) ?_
  refine lv_iload_n hx hb dX4_until_1 rfl (lv_at hl 1 rfl) ?_
  refine lv_iconst (v := nI (1)) hx hb dX4_until_2 (by decide) ?_
  refine z_cVi (As := [.int (nI (b)), .int (nI (1))]) (rest := []) ⟨hx, hb, hml, hown, hts⟩ (mX4_ofStandby l D dA ad s.heap.size m0 sa pa ha xa ta v3 v4 v6 v7 v8 v9 v10 v11 v12 f b 1 (by omega) (by omega)) (cwV 2 hts (lw_V q1420 q1422 qs30 q67 q1423) rfl rfl rfl (by decide +kernel) ⟨Nat.le_of_ble_eq_true rfl, Nat.le_of_ble_eq_true rfl⟩) hC hS (fun _ h => hA _ (Nat.le_trans hS.1 h)) (hP.sub (ws' := [(m0, .inr (4, [.ref sa, .ref pa, .ref ha, .int v3, .int v4, .ref xa, .int v6, .int v7, .int v8, .int v9, .int v10, .int v11, .int v12, .ref ta])), (sa, .inl (dA 0, 718, .inl f))]) [0, 1] rfl) (va_recv hK hP (ci := 4) (q0 := 0) rfl rfl) rfl rfl hl.1 (Nat.le_of_ble_eq_true rfl) dX4_until_3 ⟨Nat.le_of_ble_eq_true rfl, Nat.le_of_ble_eq_true rfl⟩ (fun r_1 H locs hQ hF hS => ?_)
  have hP := va_P.ro hF hP
  obtain rfl : sbf f b 1 = r_1 := hQ.symm
  refine lv_tope (y := nI (apN f b)) (hap) ?_
  refine lv_istore (lv' := [(5, .int (nI (apN f b))), (0, .ref m0), (1, .int (nI (b))), (2, .int (nI (pos))), (3, .int (nI (k))), (4, .int (nI (most)))]) hx hb dX4_until_6 hl (by decide) rfl (fun ls hl => ?_)
  refine lv_iconst (v := nI (0)) hx hb dX4_until_8 (by decide) ?_
  refine lv_istore (lv' := [(6, .int (nI (0))), (5, .int (nI (apN f b))), (0, .ref m0), (1, .int (nI (b))), (2, .int (nI (pos))), (3, .int (nI (k))), (4, .int (nI (most)))]) hx hb dX4_until_9 hl (by decide) rfl (fun ls hl => ?_)
  refine z_loop (σ := Nat × Nat) (fun x => most + 1 - x.2) (fun x H locs ls => va_P D vwCl [(m0, .inr (4, [.ref sa, .ref pa, .ref ha, .int v3, .int v4, .ref xa, .int v6, .int v7, .int v8, .int v9, .int v10, .int v11, .int v12, .ref ta])), (sa, .inl (dA 0, 718, .inl f))] H ∧ va_S (fun q => s.heap.size ≤ q) s.heap H locs ∧ lv_has ls 7 [(0, .ref m0), (1, .int (nI (b))), (2, .int (nI (pos))), (3, .int (nI (k))), (4, .int (nI (most))), (5, .int (nI (x.1))), (6, .int (nI (x.2)))] ∧ x.1 ≤ rcN f b ∧ x.2 ≤ most + 1 ∧ untilN f b pos k (most + 1) (apN f b) 0 = untilN f b pos k (most + 1 - x.2) x.1 x.2) ((apN f b, 0)) ⟨hP, hS, (lv_sub (l' := [(0, .ref m0), (1, .int (nI (b))), (2, .int (nI (pos))), (3, .int (nI (k))), (4, .int (nI (most))), (5, .int (nI ((apN f b, 0).1))), (6, .int (nI ((apN f b, 0).2)))]) hl [2, 3, 4, 5, 6, 1, 0] rfl), har, by dsimp only; omega, rfl⟩ ?_
  intro x H locs ls ⟨hP, hS, hl, hi, hi2, hu⟩ ih_11
  refine lv_iload hx hb dX4_until_11 (lv_at hl 6 rfl) ?_
  refine lv_iload hx hb dX4_until_13 (lv_at hl 4 rfl) ?_
  refine lv_icmp_gt (tgt := 57) hx hb dX4_until_15 (by decide) (fun c_2 => ?_) (fun c_2 => ?_)
  · have c_2 := (nI_ltI (by omega) (by omega)).1 c_2
    refine lv_ldc (v := (-1000004)) hx hb hown (hts _ q1408) dX4_until_57 ?_
    exact z_iret (v := (-1000004)) hx hb hr hS (by rw [hu, show most + 1 - x.2 = 0 by omega]; rfl) (by omega) (by omega) dX4_until_59
  · have c_2 := mt (nI_ltI (by omega) (by omega)).2 c_2
    have hstep : untilN f b pos k (most + 1 - x.2) x.1 x.2 = if pos ≤ x.1 then nI x.2 else untilN f b pos k (most + 1 - (x.2 + 1)) (x.1 + goesA f b (f 1 + nI x.2 + 1) k x.1) (x.2 + 1) := by rw [show most + 1 - x.2 = (most + 1 - (x.2 + 1)) + 1 by omega]; rfl
    have hgr := goesA_rc hrc (by omega) (f 1 + nI x.2 + 1) k x.1 hi
    refine lv_iload hx hb dX4_until_18 (lv_at hl 5 rfl) ?_
    refine lv_iload_n hx hb dX4_until_20 rfl (lv_at hl 2 rfl) ?_
    refine lv_icmp_lt (tgt := 27) hx hb dX4_until_21 (by decide) (fun c_3 => ?_) (fun c_3 => ?_)
    · have c_3 := (nI_ltI (by omega) (by omega)).1 c_3
      refine lv_iload hx hb dX4_until_27 (lv_at hl 5 rfl) ?_
      refine lv_aload_n hx hb dX4_until_29 rfl (lv_at hl 0 rfl) ?_
      refine lv_iload_n hx hb dX4_until_30 rfl (lv_at hl 1 rfl) ?_
      refine lv_iload hx hb dX4_until_31 (lv_at hl 5 rfl) ?_
      refine lv_aload_n hx hb dX4_until_33 rfl (lv_at hl 0 rfl) ?_
      refine va_get (D := D) (ci := 4) (v := .ref sa) (C := RX4) (T := TX4) (N := 14) hx hb hts in_X4 hown hK hP 0 rfl rfl 0 (by decide) (hts _ q1329) (fun _ h9 => h9) rfl dX4_until_34 ?_
      refine lv_iconst (v := nI (1)) hx hb dX4_until_37 (by decide) ?_
      refine va_iald hx hb hK hP 1 0 rfl rfl (vp_in_nI (by omega) (by omega)) dX4_until_38 ?_
      refine lv_tope (y := f 1) (by rw [nI_clamp (by omega)]) ?_
      refine lv_iload hx hb dX4_until_39 (lv_at hl 6 rfl) ?_
      refine lv_iadd hx hb dX4_until_41 ?_
      refine lv_iconst (v := nI (1)) hx hb dX4_until_42 (by decide) ?_
      refine lv_iadd hx hb dX4_until_43 ?_
      refine lv_iload_n hx hb dX4_until_44 rfl (lv_at hl 3 rfl) ?_
      refine z_cVi (As := [.int (nI (b)), .int (nI (x.1)), .int (((f 1) + (nI (x.2))) + (nI (1))), .int (nI (k))]) (rest := [.int (nI (x.1))]) ⟨hx, hb, hml, hown, hts⟩ (mX4_goes l D dA ad H.size m0 sa pa ha xa ta v3 v4 v6 v7 v8 v9 v10 v11 v12 f b x.1 (f 1 + nI x.2 + 1) k (rcN f b) (by omega) (hrc) (by omega) (by omega) (by omega)) (cwV 4 hts (lw_V q1448 q1450 qs34 q67 q1451) rfl rfl rfl (by decide +kernel) ⟨Nat.le_of_ble_eq_true rfl, Nat.le_of_ble_eq_true rfl⟩) hC hS (fun _ h => hA _ (Nat.le_trans hS.1 h)) (hP.sub (ws' := [(m0, .inr (4, [.ref sa, .ref pa, .ref ha, .int v3, .int v4, .ref xa, .int v6, .int v7, .int v8, .int v9, .int v10, .int v11, .int v12, .ref ta])), (sa, .inl (dA 0, 718, .inl f))]) [0, 1] rfl) (va_recv hK hP (ci := 4) (q0 := 0) rfl rfl) rfl rfl hl.1 (Nat.le_of_ble_eq_true rfl) dX4_until_45 ⟨Nat.le_of_ble_eq_true rfl, Nat.le_of_ble_eq_true rfl⟩ (fun r_4 H locs hQ hF hS => ?_)
      have hP := va_P.ro hF hP
      obtain rfl : nI (goesA f b (f 1 + nI x.2 + 1) k x.1) = r_4 := hQ.symm
      refine lv_iadd hx hb dX4_until_48 ?_
      refine lv_tope (y := nI (x.1 + (goesA f b (f 1 + nI x.2 + 1) k x.1))) (nI_add _ _) ?_
      refine lv_istore (lv' := [(5, .int (nI (x.1 + (goesA f b (f 1 + nI x.2 + 1) k x.1)))), (0, .ref m0), (1, .int (nI (b))), (2, .int (nI (pos))), (3, .int (nI (k))), (4, .int (nI (most))), (6, .int (nI (x.2)))]) hx hb dX4_until_49 hl (by decide) rfl (fun ls hl => ?_)
      refine lv_iinc (v := nI (x.2 + 1)) (lv' := [(6, .int (nI (x.2 + 1))), (5, .int (nI (x.1 + (goesA f b (f 1 + nI x.2 + 1) k x.1)))), (0, .ref m0), (1, .int (nI (b))), (2, .int (nI (pos))), (3, .int (nI (k))), (4, .int (nI (most)))]) hx hb dX4_until_51 hl (k := 6) rfl (nI_add _ _) (by decide) rfl (fun ls hl => ?_)
      refine lv_goto (tgt := 11) hx hb dX4_until_54 (by decide) ?_
      exact ih_11 ((x.1 + goesA f b (f 1 + nI x.2 + 1) k x.1, x.2 + 1)) H locs ls ⟨hP, hS, (lv_sub (l' := [(0, .ref m0), (1, .int (nI (b))), (2, .int (nI (pos))), (3, .int (nI (k))), (4, .int (nI (most))), (5, .int (nI ((x.1 + goesA f b (f 1 + nI x.2 + 1) k x.1, x.2 + 1).1))), (6, .int (nI ((x.1 + goesA f b (f 1 + nI x.2 + 1) k x.1, x.2 + 1).2)))]) hl [2, 3, 4, 5, 6, 1, 0] rfl), hgr, by dsimp only; omega, by rw [hu, hstep, if_neg (by omega)]⟩ (by dsimp only; omega)
    · have c_3 := mt (nI_ltI (by omega) (by omega)).2 c_3
      refine lv_iload hx hb dX4_until_24 (lv_at hl 6 rfl) ?_
      exact z_iret (v := nI (x.2)) hx hb hr hS (by rw [hu, hstep, if_pos (by omega)]) (by omega) (by omega) dX4_until_26

set_option maxHeartbeats 4000000 in
set_option maxRecDepth 100000 in
theorem mX4_wouldBeLost (l : Launch) (D : va_G) (dA : Nat → ClassId) (ad : Nat → Nat) (sz : Nat) (m0 : Nat) (sa : Nat) (pa : Nat) (ha : Nat) (xa : Nat) (ta : Nat) (v3 : Int32) (v4 : Int32) (v6 : Int32) (v7 : Int32) (v8 : Int32) (v9 : Int32) (v10 : Int32) (v11 : Int32) (v12 : Int32) (f : Nat → Int32) (b : Nat) (h1 : b < 2) (hI : InvA f) : Met l yX4_wouldBeLost (ws_ yX4_wouldBeLost cX4_wouldBeLost 2 (some .int)) ({ frames := 2, cells := 0, slots := 0, locals := 60 }) (va_Pc [.ref m0, .int (nI (b))] (zP D dA ad (fun q => sz ≤ q) sz (fun H => va_P D vwCl [(m0, .inr (4, [.ref sa, .ref pa, .ref ha, .int v3, .int v4, .ref xa, .int v6, .int v7, .int v8, .int v9, .int v10, .int v11, .int v12, .ref ta])), (sa, .inl (dA 0, 718, .inl f))] H))) (zQi (fun rz H => rz = nI (lost f b)) (fun q => sz ≤ q)) (0) (0) (fun q => sz ≤ q) := by
  refine Met.ofW (cc := cX4_wouldBeLost) (maxL := 2) (ret := (some .int)) (by decide) rfl ?_
  intro p e s m args below meth c s₁ B hml hv
  obtain ⟨rfl, hsz, hC, hP⟩ := hv
  have hx := B.exec
  have hb := B.bytes
  have hr := B.returns
  have hts := atoms_spec (ws := ws_ yX4_wouldBeLost cX4_wouldBeLost 2 (some .int)) B.pre
  have hts : ∀ w ∈ lw_all, w.before _ s = true := fun w h => hts w (List.mem_cons_of_mem _ h)
  have hown : s.vm.findClass RX4 = some m.cls := findClass_of_methodNamed B.named
  have hlocks := B.notSynchronized
  subst hsz
  have hK := hC.K
  have hA : ∀ q : Nat, s.heap.size ≤ q → s.heap.size ≤ q := fun _ h => h
  have hS : va_S (fun q => s.heap.size ≤ q) s.heap s.heap [] := va_S.rf
  have hP : va_P D vwCl [(m0, .inr (4, [.ref sa, .ref pa, .ref ha, .int v3, .int v4, .ref xa, .int v6, .int v7, .int v8, .int v9, .int v10, .int v11, .int v12, .ref ta])), (sa, .inl (dA 0, 718, .inl f))] s.heap := hP
  obtain ⟨hf0, hn, hsb, hrt, hrt2⟩ := hI
  obtain ⟨hrc, hap, har, hrl⟩ := hsb b h1
  have hl := lv_entry ([.ref m0, .int (nI (b))]) (n := 2) (Nat.le_of_ble_eq_true rfl)
  rw [lg_entry_eq]
  generalize (lg_sl ([.ref m0, .int (nI (b))]) ++ List.replicate (2 - (lg_sl ([.ref m0, .int (nI (b))])).length) Slot.unset).toArray = ls at hl ⊢
  have hl : lv_has ls 2 [(0, .ref m0), (1, .int (nI (b)))] := hl
  refine lv_aload_n hx hb dX4_wouldBeLost_0 rfl (lv_at hl 0 rfl) ?_
  refine lv_aload_n hx hb dX4_wouldBeLost_1 rfl (lv_at hl 0 rfl) ?_
  refine lv_iload_n hx hb dX4_wouldBeLost_2 rfl (lv_at hl 1 rfl) ?_
  refine lv_iconst (v := nI (1)) hx hb dX4_wouldBeLost_3 (by decide) ?_
  refine z_cVi (As := [.int (nI (b)), .int (nI (1))]) (rest := [.ref m0]) ⟨hx, hb, hml, hown, hts⟩ (mX4_ofStandby l D dA ad s.heap.size m0 sa pa ha xa ta v3 v4 v6 v7 v8 v9 v10 v11 v12 f b 1 (by omega) (by omega)) (cwV 2 hts (lw_V q1420 q1422 qs30 q67 q1423) rfl rfl rfl (by decide +kernel) ⟨Nat.le_of_ble_eq_true rfl, Nat.le_of_ble_eq_true rfl⟩) hC hS (fun _ h => hA _ (Nat.le_trans hS.1 h)) (hP.sub (ws' := [(m0, .inr (4, [.ref sa, .ref pa, .ref ha, .int v3, .int v4, .ref xa, .int v6, .int v7, .int v8, .int v9, .int v10, .int v11, .int v12, .ref ta])), (sa, .inl (dA 0, 718, .inl f))]) [0, 1] rfl) (va_recv hK hP (ci := 4) (q0 := 0) rfl rfl) rfl rfl hl.1 (Nat.le_of_ble_eq_true rfl) dX4_wouldBeLost_4 ⟨Nat.le_of_ble_eq_true rfl, Nat.le_of_ble_eq_true rfl⟩ (fun r_1 H locs hQ hF hS => ?_)
  have hP := va_P.ro hF hP
  obtain rfl : sbf f b 1 = r_1 := hQ.symm
  refine lv_tope (y := nI (apN f b)) (hap) ?_
  refine lv_iconst (v := nI (1)) hx hb dX4_wouldBeLost_7 (by decide) ?_
  refine lv_iadd hx hb dX4_wouldBeLost_8 ?_
  refine lv_tope (y := nI ((apN f b) + 1)) (nI_add _ _) ?_
  refine lv_aload_n hx hb dX4_wouldBeLost_9 rfl (lv_at hl 0 rfl) ?_
  refine va_get (D := D) (ci := 4) (v := .ref sa) (C := RX4) (T := TX4) (N := 14) hx hb hts in_X4 hown hK hP 0 rfl rfl 0 (by decide) (hts _ q1329) (fun _ h9 => h9) rfl dX4_wouldBeLost_10 ?_
  refine lv_iconst (v := nI (0)) hx hb dX4_wouldBeLost_13 (by decide) ?_
  refine va_iald hx hb hK hP 1 0 rfl rfl (vp_in_nI (by omega) (by omega)) dX4_wouldBeLost_14 ?_
  refine lv_tope (y := f 0) (by rw [nI_clamp (by omega)]) ?_
  refine lv_tope (y := nI (rN f)) (hf0) ?_
  refine z_cVi (As := [.int (nI ((apN f b) + 1)), .int (nI (rN f))]) (rest := []) ⟨hx, hb, hml, hown, hts⟩ (mX4_commits l D dA ad H.size m0 sa pa ha xa ta v3 v4 v6 v7 v8 v9 v10 v11 v12 f ((apN f b) + 1) (rN f) (by omega) (by omega) (by omega)) (cwV 2 hts (lw_V q1464 q1466 qs37 q67 q1467) rfl rfl rfl (by decide +kernel) ⟨Nat.le_of_ble_eq_true rfl, Nat.le_of_ble_eq_true rfl⟩) hC hS (fun _ h => hA _ (Nat.le_trans hS.1 h)) (hP.sub (ws' := [(m0, .inr (4, [.ref sa, .ref pa, .ref ha, .int v3, .int v4, .ref xa, .int v6, .int v7, .int v8, .int v9, .int v10, .int v11, .int v12, .ref ta])), (sa, .inl (dA 0, 718, .inl f))]) [0, 1] rfl) (va_recv hK hP (ci := 4) (q0 := 0) rfl rfl) rfl rfl hl.1 (Nat.le_of_ble_eq_true rfl) dX4_wouldBeLost_15 ⟨Nat.le_of_ble_eq_true rfl, Nat.le_of_ble_eq_true rfl⟩ (fun r_2 H locs hQ hF hS => ?_)
  have hP := va_P.ro hF hP
  obtain rfl : nI (commits f ((apN f b) + 1) ((rN f) + 1 - ((apN f b) + 1))) = r_2 := hQ.symm
  exact z_iret (v := nI (commits f ((apN f b) + 1) ((rN f) + 1 - ((apN f b) + 1)))) hx hb hr hS (by unfold lost; rw [show rN f + 1 - (apN f b + 1) = rN f - apN f b by omega]) (by omega) (by omega) dX4_wouldBeLost_18

set_option maxHeartbeats 4000000 in
set_option maxRecDepth 100000 in
theorem mX4_isFence (l : Launch) (D : va_G) (dA : Nat → ClassId) (ad : Nat → Nat) (sz : Nat) (m0 : Nat) (sa : Nat) (pa : Nat) (ha : Nat) (xa : Nat) (ta : Nat) (v3 : Int32) (v4 : Int32) (v6 : Int32) (v7 : Int32) (v8 : Int32) (v9 : Int32) (v10 : Int32) (v11 : Int32) (v12 : Int32) (f : Nat → Int32) (fe : Int32) : Met l yX4_isFence (ws_ yX4_isFence cX4_isFence 2 (some .boolean)) ({ frames := 1, cells := 0, slots := 0, locals := 30 }) (va_Pc [.ref m0, .int fe] (zP D dA ad (fun q => sz ≤ q) sz (fun H => va_P D vwCl [(m0, .inr (4, [.ref sa, .ref pa, .ref ha, .int v3, .int v4, .ref xa, .int v6, .int v7, .int v8, .int v9, .int v10, .int v11, .int v12, .ref ta])), (sa, .inl (dA 0, 718, .inl f))] H))) (zQi (fun rz H => rz = bI (isFe f fe)) (fun q => sz ≤ q)) (0) (0) (fun q => sz ≤ q) := by
  refine Met.ofW (cc := cX4_isFence) (maxL := 2) (ret := (some .boolean)) (by decide) rfl ?_
  intro p e s m args below meth c s₁ B hml hv
  obtain ⟨rfl, hsz, hC, hP⟩ := hv
  have hx := B.exec
  have hb := B.bytes
  have hr := B.returns
  have hts := atoms_spec (ws := ws_ yX4_isFence cX4_isFence 2 (some .boolean)) B.pre
  have hts : ∀ w ∈ lw_all, w.before _ s = true := fun w h => hts w (List.mem_cons_of_mem _ h)
  have hown : s.vm.findClass RX4 = some m.cls := findClass_of_methodNamed B.named
  have hlocks := B.notSynchronized
  subst hsz
  have hK := hC.K
  have hA : ∀ q : Nat, s.heap.size ≤ q → s.heap.size ≤ q := fun _ h => h
  have hS : va_S (fun q => s.heap.size ≤ q) s.heap s.heap [] := va_S.rf
  have hP : va_P D vwCl [(m0, .inr (4, [.ref sa, .ref pa, .ref ha, .int v3, .int v4, .ref xa, .int v6, .int v7, .int v8, .int v9, .int v10, .int v11, .int v12, .ref ta])), (sa, .inl (dA 0, 718, .inl f))] s.heap := hP
  have hl := lv_entry ([.ref m0, .int fe]) (n := 2) (Nat.le_of_ble_eq_true rfl)
  rw [lg_entry_eq]
  generalize (lg_sl ([.ref m0, .int fe]) ++ List.replicate (2 - (lg_sl ([.ref m0, .int fe])).length) Slot.unset).toArray = ls at hl ⊢
  have hl : lv_has ls 2 [(0, .ref m0), (1, .int fe)] := hl
  refine lv_iload_n hx hb dX4_isFence_0 rfl (lv_at hl 1 rfl) ?_
  refine lv_iconst (v := nI (0)) hx hb dX4_isFence_1 (by decide) ?_
  refine lv_aload_n hx hb dX4_isFence_2 rfl (lv_at hl 0 rfl) ?_
  refine va_get (D := D) (ci := 4) (v := .ref sa) (C := RX4) (T := TX4) (N := 14) hx hb hts in_X4 hown hK hP 0 rfl rfl 0 (by decide) (hts _ q1329) (fun _ h9 => h9) rfl dX4_isFence_3 ?_
  refine lv_iconst (v := nI (0)) hx hb dX4_isFence_6 (by decide) ?_
  refine va_iald hx hb hK hP 1 0 rfl rfl (vp_in_nI (by omega) (by omega)) dX4_isFence_7 ?_
  refine lv_tope (y := f 0) (by rw [nI_clamp (by omega)]) ?_
  refine z_cSi (As := [.int fe, .int (nI (0)), .int (f 0)]) (rest := []) ⟨hx, hb, hml, hown, hts⟩ (mX4_in l D dA ad s.heap.size fe (nI (0)) (f 0)) (va_cwS 3 hts (lw_S q1379 q1380 q67 q1381) rfl rfl rfl (by decide +kernel) ⟨Nat.le_of_ble_eq_true rfl, Nat.le_of_ble_eq_true rfl⟩) hC hS (fun _ h => hA _ (Nat.le_trans hS.1 h)) trivial rfl rfl hl.1 (Nat.le_of_ble_eq_true rfl) dX4_isFence_8 ⟨Nat.le_of_ble_eq_true rfl, Nat.le_of_ble_eq_true rfl⟩ (fun r_1 H locs hQ hF hS => ?_)
  have hP := va_P.ro hF hP
  obtain rfl : bI ((nI (0)) ≤ fe ∧ fe ≤ (f 0)) = r_1 := hQ.symm
  exact z_zret (v := bI ((nI (0)) ≤ fe ∧ fe ≤ (f 0))) hx hb hr (bI_nar) hS (rfl) (by omega) (by omega) dX4_isFence_11

set_option maxHeartbeats 4000000 in
set_option maxRecDepth 100000 in
theorem mX4_canServe (l : Launch) (D : va_G) (dA : Nat → ClassId) (ad : Nat → Nat) (sz : Nat) (m0 : Nat) (sa : Nat) (pa : Nat) (ha : Nat) (xa : Nat) (ta : Nat) (v3 : Int32) (v4 : Int32) (v6 : Int32) (v7 : Int32) (v8 : Int32) (v9 : Int32) (v10 : Int32) (v11 : Int32) (v12 : Int32) (f : Nat → Int32) (b : Nat) (fe : Int32) (h1 : b < 2) : Met l yX4_canServe (ws_ yX4_canServe cX4_canServe 3 (some .boolean)) ({ frames := 1, cells := 0, slots := 0, locals := 30 }) (va_Pc [.ref m0, .int (nI (b)), .int fe] (zP D dA ad (fun q => sz ≤ q) sz (fun H => va_P D vwCl [(m0, .inr (4, [.ref sa, .ref pa, .ref ha, .int v3, .int v4, .ref xa, .int v6, .int v7, .int v8, .int v9, .int v10, .int v11, .int v12, .ref ta])), (sa, .inl (dA 0, 718, .inl f))] H))) (zQi (fun rz H => rz = bI (aCan f b fe)) (fun q => sz ≤ q)) (0) (0) (fun q => sz ≤ q) := by
  refine Met.ofW (cc := cX4_canServe) (maxL := 3) (ret := (some .boolean)) (by decide) rfl ?_
  intro p e s m args below meth c s₁ B hml hv
  obtain ⟨rfl, hsz, hC, hP⟩ := hv
  have hx := B.exec
  have hb := B.bytes
  have hr := B.returns
  have hts := atoms_spec (ws := ws_ yX4_canServe cX4_canServe 3 (some .boolean)) B.pre
  have hts : ∀ w ∈ lw_all, w.before _ s = true := fun w h => hts w (List.mem_cons_of_mem _ h)
  have hown : s.vm.findClass RX4 = some m.cls := findClass_of_methodNamed B.named
  have hlocks := B.notSynchronized
  subst hsz
  have hK := hC.K
  have hA : ∀ q : Nat, s.heap.size ≤ q → s.heap.size ≤ q := fun _ h => h
  have hS : va_S (fun q => s.heap.size ≤ q) s.heap s.heap [] := va_S.rf
  have hP : va_P D vwCl [(m0, .inr (4, [.ref sa, .ref pa, .ref ha, .int v3, .int v4, .ref xa, .int v6, .int v7, .int v8, .int v9, .int v10, .int v11, .int v12, .ref ta])), (sa, .inl (dA 0, 718, .inl f))] s.heap := hP
  have hl := lv_entry ([.ref m0, .int (nI (b)), .int fe]) (n := 3) (Nat.le_of_ble_eq_true rfl)
  rw [lg_entry_eq]
  generalize (lg_sl ([.ref m0, .int (nI (b)), .int fe]) ++ List.replicate (3 - (lg_sl ([.ref m0, .int (nI (b)), .int fe])).length) Slot.unset).toArray = ls at hl ⊢
  have hl : lv_has ls 3 [(0, .ref m0), (1, .int (nI (b))), (2, .int fe)] := hl
  refine lv_aload_n hx hb dX4_canServe_0 rfl (lv_at hl 0 rfl) ?_
  refine lv_iload_n hx hb dX4_canServe_1 rfl (lv_at hl 1 rfl) ?_
  refine lv_iconst (v := nI (2)) hx hb dX4_canServe_2 (by decide) ?_
  refine z_cVi (As := [.int (nI (b)), .int (nI (2))]) (rest := []) ⟨hx, hb, hml, hown, hts⟩ (mX4_ofStandby l D dA ad s.heap.size m0 sa pa ha xa ta v3 v4 v6 v7 v8 v9 v10 v11 v12 f b 2 (by omega) (by omega)) (cwV 2 hts (lw_V q1420 q1422 qs30 q67 q1423) rfl rfl rfl (by decide +kernel) ⟨Nat.le_of_ble_eq_true rfl, Nat.le_of_ble_eq_true rfl⟩) hC hS (fun _ h => hA _ (Nat.le_trans hS.1 h)) (hP.sub (ws' := [(m0, .inr (4, [.ref sa, .ref pa, .ref ha, .int v3, .int v4, .ref xa, .int v6, .int v7, .int v8, .int v9, .int v10, .int v11, .int v12, .ref ta])), (sa, .inl (dA 0, 718, .inl f))]) [0, 1] rfl) (va_recv hK hP (ci := 4) (q0 := 0) rfl rfl) rfl rfl hl.1 (Nat.le_of_ble_eq_true rfl) dX4_canServe_3 ⟨Nat.le_of_ble_eq_true rfl, Nat.le_of_ble_eq_true rfl⟩ (fun r_1 H locs hQ hF hS => ?_)
  have hP := va_P.ro hF hP
  obtain rfl : sbf f b 2 = r_1 := hQ.symm
  refine lv_if_ne (tgt := 23) hx hb dX4_canServe_6 (by decide) (fun c_2 => ?_) (fun c_2 => ?_)
  · refine lv_iconst (v := nI (0)) hx hb dX4_canServe_23 (by decide) ?_
    exact z_zret (v := nI (0)) hx hb hr (by first | rfl | decide) hS (by first | exact (bI_f (fun q => absurd q.1 (by assumption))).symm | exact (bI_f (fun q => absurd q.2 (Int32.not_le.2 (by assumption)))).symm) (by omega) (by omega) dX4_canServe_24
  · refine lv_aload_n hx hb dX4_canServe_9 rfl (lv_at hl 0 rfl) ?_
    refine lv_iload_n hx hb dX4_canServe_10 rfl (lv_at hl 1 rfl) ?_
    refine lv_iconst (v := nI (1)) hx hb dX4_canServe_11 (by decide) ?_
    refine z_cVi (As := [.int (nI (b)), .int (nI (1))]) (rest := []) ⟨hx, hb, hml, hown, hts⟩ (mX4_ofStandby l D dA ad H.size m0 sa pa ha xa ta v3 v4 v6 v7 v8 v9 v10 v11 v12 f b 1 (by omega) (by omega)) (cwV 2 hts (lw_V q1420 q1422 qs30 q67 q1423) rfl rfl rfl (by decide +kernel) ⟨Nat.le_of_ble_eq_true rfl, Nat.le_of_ble_eq_true rfl⟩) hC hS (fun _ h => hA _ (Nat.le_trans hS.1 h)) (hP.sub (ws' := [(m0, .inr (4, [.ref sa, .ref pa, .ref ha, .int v3, .int v4, .ref xa, .int v6, .int v7, .int v8, .int v9, .int v10, .int v11, .int v12, .ref ta])), (sa, .inl (dA 0, 718, .inl f))]) [0, 1] rfl) (va_recv hK hP (ci := 4) (q0 := 0) rfl rfl) rfl rfl hl.1 (Nat.le_of_ble_eq_true rfl) dX4_canServe_12 ⟨Nat.le_of_ble_eq_true rfl, Nat.le_of_ble_eq_true rfl⟩ (fun r_3 H locs hQ hF hS => ?_)
    have hP := va_P.ro hF hP
    obtain rfl : sbf f b 1 = r_3 := hQ.symm
    refine lv_iload_n hx hb dX4_canServe_15 rfl (lv_at hl 2 rfl) ?_
    refine lv_icmp_lt (tgt := 23) hx hb dX4_canServe_16 (by decide) (fun c_4 => ?_) (fun c_4 => ?_)
    · refine lv_iconst (v := nI (0)) hx hb dX4_canServe_23 (by decide) ?_
      exact z_zret (v := nI (0)) hx hb hr (by first | rfl | decide) hS (by first | exact (bI_f (fun q => absurd q.1 (by assumption))).symm | exact (bI_f (fun q => absurd q.2 (Int32.not_le.2 (by assumption)))).symm) (by omega) (by omega) dX4_canServe_24
    · refine lv_iconst (v := nI (1)) hx hb dX4_canServe_19 (by decide) ?_
      refine lv_goto (tgt := 24) hx hb dX4_canServe_20 (by decide) ?_
      exact z_zret (v := nI (1)) hx hb hr (by first | rfl | decide) hS ((bI_t ⟨by assumption, Int32.not_lt.1 (by assumption)⟩).symm) (by omega) (by omega) dX4_canServe_24

set_option maxHeartbeats 4000000 in
set_option maxRecDepth 100000 in
theorem mX4_read (l : Launch) (D : va_G) (dA : Nat → ClassId) (ad : Nat → Nat) (sz : Nat) (m0 : Nat) (sa : Nat) (pa : Nat) (ha : Nat) (xa : Nat) (ta : Nat) (v3 : Int32) (v4 : Int32) (v6 : Int32) (v7 : Int32) (v8 : Int32) (v9 : Int32) (v10 : Int32) (v11 : Int32) (v12 : Int32) (f : Nat → Int32) (sb : Int32) (key : Int32) (fe : Int32) (hI : InvA f) : Met l yX4_read (ws_ yX4_read cX4_read 4 (some .int)) ({ frames := 4, cells := 0, slots := 0, locals := 120 }) (va_Pc [.ref m0, .int sb, .int key, .int fe] (zP D dA ad (fun q => sz ≤ q) sz (fun H => va_P D vwCl [(m0, .inr (4, [.ref sa, .ref pa, .ref ha, .int v3, .int v4, .ref xa, .int v6, .int v7, .int v8, .int v9, .int v10, .int v11, .int v12, .ref ta])), (sa, .inl (dA 0, 718, .inl f))] H))) (zQi (fun rz H => rz = aRead f sb key fe) (fun q => sz ≤ q)) (0) (0) (fun q => sz ≤ q) := by
  refine Met.ofW (cc := cX4_read) (maxL := 4) (ret := (some .int)) (by decide) rfl ?_
  intro p e s m args below meth c s₁ B hml hv
  obtain ⟨rfl, hsz, hC, hP⟩ := hv
  have hx := B.exec
  have hb := B.bytes
  have hr := B.returns
  have hts := atoms_spec (ws := ws_ yX4_read cX4_read 4 (some .int)) B.pre
  have hts : ∀ w ∈ lw_all, w.before _ s = true := fun w h => hts w (List.mem_cons_of_mem _ h)
  have hown : s.vm.findClass RX4 = some m.cls := findClass_of_methodNamed B.named
  have hlocks := B.notSynchronized
  subst hsz
  have hK := hC.K
  have hA : ∀ q : Nat, s.heap.size ≤ q → s.heap.size ≤ q := fun _ h => h
  have hS : va_S (fun q => s.heap.size ≤ q) s.heap s.heap [] := va_S.rf
  have hP : va_P D vwCl [(m0, .inr (4, [.ref sa, .ref pa, .ref ha, .int v3, .int v4, .ref xa, .int v6, .int v7, .int v8, .int v9, .int v10, .int v11, .int v12, .ref ta])), (sa, .inl (dA 0, 718, .inl f))] s.heap := hP
  obtain ⟨hf0, hn, hsb, hrt, hrt2⟩ := hI
  have hl := lv_entry ([.ref m0, .int sb, .int key, .int fe]) (n := 4) (Nat.le_of_ble_eq_true rfl)
  rw [lg_entry_eq]
  generalize (lg_sl ([.ref m0, .int sb, .int key, .int fe]) ++ List.replicate (4 - (lg_sl ([.ref m0, .int sb, .int key, .int fe])).length) Slot.unset).toArray = ls at hl ⊢
  have hl : lv_has ls 4 [(0, .ref m0), (1, .int sb), (2, .int key), (3, .int fe)] := hl
  refine lv_iload_n hx hb dX4_read_0 rfl (lv_at hl 1 rfl) ?_
  refine z_cSi (As := [.int sb]) (rest := []) ⟨hx, hb, hml, hown, hts⟩ (mX4_isStandby l D dA ad s.heap.size sb) (va_cwS 1 hts (lw_S q1417 q1418 q67 q1419) rfl rfl rfl (by decide +kernel) ⟨Nat.le_of_ble_eq_true rfl, Nat.le_of_ble_eq_true rfl⟩) hC hS (fun _ h => hA _ (Nat.le_trans hS.1 h)) trivial rfl rfl hl.1 (Nat.le_of_ble_eq_true rfl) dX4_read_1 ⟨Nat.le_of_ble_eq_true rfl, Nat.le_of_ble_eq_true rfl⟩ (fun r_1 H locs hQ hF hS => ?_)
  have hP := va_P.ro hF hP
  obtain rfl : bI (nI (0) ≤ sb ∧ sb ≤ nI (1)) = r_1 := hQ.symm
  refine lv_if_eq (tgt := 22) hx hb dX4_read_4 (by decide) (fun c_2 => ?_) (fun c_2 => ?_)
  · have c_2 := bI_0.1 c_2
    refine lv_ldc (v := (-1000001)) hx hb hown (hts _ q1382) dX4_read_22 ?_
    exact z_iret (v := (-1000001)) hx hb hr hS (by unfold aRead; (repeat' split) <;> first | rfl | contradiction | (exfalso; simp_all; done)) (by omega) (by omega) dX4_read_24
  · have c_2 := bI_1.1 c_2
    obtain ⟨b, h1, rfl⟩ := zr_of (N := 1) c_2 (by decide)
    have h1 : b < 2 := (by omega)
    obtain ⟨hrc, hap, har, hrl⟩ := hsb b h1
    refine lv_iload_n hx hb dX4_read_7 rfl (lv_at hl 2 rfl) ?_
    refine z_cSi (As := [.int key]) (rest := []) ⟨hx, hb, hml, hown, hts⟩ (mX4_isKey l D dA ad H.size key) (va_cwS 1 hts (lw_S q1392 q1393 q67 q1394) rfl rfl rfl (by decide +kernel) ⟨Nat.le_of_ble_eq_true rfl, Nat.le_of_ble_eq_true rfl⟩) hC hS (fun _ h => hA _ (Nat.le_trans hS.1 h)) trivial rfl rfl hl.1 (Nat.le_of_ble_eq_true rfl) dX4_read_8 ⟨Nat.le_of_ble_eq_true rfl, Nat.le_of_ble_eq_true rfl⟩ (fun r_3 H locs hQ hF hS => ?_)
    have hP := va_P.ro hF hP
    obtain rfl : bI (nI (0) ≤ key ∧ key ≤ nI (23)) = r_3 := hQ.symm
    refine lv_if_eq (tgt := 22) hx hb dX4_read_11 (by decide) (fun c_4 => ?_) (fun c_4 => ?_)
    · have c_4 := bI_0.1 c_4
      refine lv_ldc (v := (-1000001)) hx hb hown (hts _ q1382) dX4_read_22 ?_
      exact z_iret (v := (-1000001)) hx hb hr hS (by unfold aRead; simp only [nI_clamp (show b < 2 ^ 31 by omega)]; (repeat' split) <;> first | rfl | contradiction | (exfalso; simp_all; done)) (by omega) (by omega) dX4_read_24
    · have c_4 := bI_1.1 c_4
      refine lv_aload_n hx hb dX4_read_14 rfl (lv_at hl 0 rfl) ?_
      refine lv_iload_n hx hb dX4_read_15 rfl (lv_at hl 3 rfl) ?_
      refine z_cVi (As := [.int fe]) (rest := []) ⟨hx, hb, hml, hown, hts⟩ (mX4_isFence l D dA ad H.size m0 sa pa ha xa ta v3 v4 v6 v7 v8 v9 v10 v11 v12 f fe) (cwV 1 hts (lw_V q1484 q1486 qs39 q67 q1487) rfl rfl rfl (by decide +kernel) ⟨Nat.le_of_ble_eq_true rfl, Nat.le_of_ble_eq_true rfl⟩) hC hS (fun _ h => hA _ (Nat.le_trans hS.1 h)) (hP.sub (ws' := [(m0, .inr (4, [.ref sa, .ref pa, .ref ha, .int v3, .int v4, .ref xa, .int v6, .int v7, .int v8, .int v9, .int v10, .int v11, .int v12, .ref ta])), (sa, .inl (dA 0, 718, .inl f))]) [0, 1] rfl) (va_recv hK hP (ci := 4) (q0 := 0) rfl rfl) rfl rfl hl.1 (Nat.le_of_ble_eq_true rfl) dX4_read_16 ⟨Nat.le_of_ble_eq_true rfl, Nat.le_of_ble_eq_true rfl⟩ (fun r_5 H locs hQ hF hS => ?_)
      have hP := va_P.ro hF hP
      obtain rfl : bI (isFe f fe) = r_5 := hQ.symm
      refine lv_if_ne (tgt := 25) hx hb dX4_read_19 (by decide) (fun c_6 => ?_) (fun c_6 => ?_)
      · have c_6 := bI_1.1 c_6
        refine lv_aload_n hx hb dX4_read_25 rfl (lv_at hl 0 rfl) ?_
        refine lv_iload_n hx hb dX4_read_26 rfl (lv_at hl 1 rfl) ?_
        refine lv_iload_n hx hb dX4_read_27 rfl (lv_at hl 3 rfl) ?_
        refine z_cVi (As := [.int (nI (b)), .int fe]) (rest := []) ⟨hx, hb, hml, hown, hts⟩ (mX4_canServe l D dA ad H.size m0 sa pa ha xa ta v3 v4 v6 v7 v8 v9 v10 v11 v12 f b fe (by omega)) (cwV 2 hts (lw_V q1488 q1490 qs40 q67 q1491) rfl rfl rfl (by decide +kernel) ⟨Nat.le_of_ble_eq_true rfl, Nat.le_of_ble_eq_true rfl⟩) hC hS (fun _ h => hA _ (Nat.le_trans hS.1 h)) (hP.sub (ws' := [(m0, .inr (4, [.ref sa, .ref pa, .ref ha, .int v3, .int v4, .ref xa, .int v6, .int v7, .int v8, .int v9, .int v10, .int v11, .int v12, .ref ta])), (sa, .inl (dA 0, 718, .inl f))]) [0, 1] rfl) (va_recv hK hP (ci := 4) (q0 := 0) rfl rfl) rfl rfl hl.1 (Nat.le_of_ble_eq_true rfl) dX4_read_28 ⟨Nat.le_of_ble_eq_true rfl, Nat.le_of_ble_eq_true rfl⟩ (fun r_7 H locs hQ hF hS => ?_)
        have hP := va_P.ro hF hP
        obtain rfl : bI (aCan f b fe) = r_7 := hQ.symm
        refine lv_if_eq (tgt := 48) hx hb dX4_read_31 (by decide) (fun c_8 => ?_) (fun c_8 => ?_)
        · have c_8 := bI_0.1 c_8
          refine lv_ldc (v := (-1000002)) hx hb hown (hts _ q1383) dX4_read_48 ?_
          exact z_iret (v := (-1000002)) hx hb hr hS (by unfold aRead; simp only [nI_clamp (show b < 2 ^ 31 by omega)]; (repeat' split) <;> first | rfl | contradiction | (exfalso; simp_all; done)) (by omega) (by omega) dX4_read_50
        · have c_8 := bI_1.1 c_8
          refine lv_aload_n hx hb dX4_read_34 rfl (lv_at hl 0 rfl) ?_
          refine lv_aload_n hx hb dX4_read_35 rfl (lv_at hl 0 rfl) ?_
          refine lv_iload_n hx hb dX4_read_36 rfl (lv_at hl 1 rfl) ?_
          refine lv_iconst (v := nI (1)) hx hb dX4_read_37 (by decide) ?_
          refine z_cVi (As := [.int (nI (b)), .int (nI (1))]) (rest := [.ref m0]) ⟨hx, hb, hml, hown, hts⟩ (mX4_ofStandby l D dA ad H.size m0 sa pa ha xa ta v3 v4 v6 v7 v8 v9 v10 v11 v12 f b 1 (by omega) (by omega)) (cwV 2 hts (lw_V q1420 q1422 qs30 q67 q1423) rfl rfl rfl (by decide +kernel) ⟨Nat.le_of_ble_eq_true rfl, Nat.le_of_ble_eq_true rfl⟩) hC hS (fun _ h => hA _ (Nat.le_trans hS.1 h)) (hP.sub (ws' := [(m0, .inr (4, [.ref sa, .ref pa, .ref ha, .int v3, .int v4, .ref xa, .int v6, .int v7, .int v8, .int v9, .int v10, .int v11, .int v12, .ref ta])), (sa, .inl (dA 0, 718, .inl f))]) [0, 1] rfl) (va_recv hK hP (ci := 4) (q0 := 0) rfl rfl) rfl rfl hl.1 (Nat.le_of_ble_eq_true rfl) dX4_read_38 ⟨Nat.le_of_ble_eq_true rfl, Nat.le_of_ble_eq_true rfl⟩ (fun r_9 H locs hQ hF hS => ?_)
          have hP := va_P.ro hF hP
          obtain rfl : sbf f b 1 = r_9 := hQ.symm
          refine lv_tope (y := nI (apN f b)) (hap) ?_
          refine lv_iload_n hx hb dX4_read_41 rfl (lv_at hl 2 rfl) ?_
          refine z_cVi (As := [.int (nI (apN f b)), .int key]) (rest := []) ⟨hx, hb, hml, hown, hts⟩ (mX4_valueAt l D dA ad H.size m0 sa pa ha xa ta v3 v4 v6 v7 v8 v9 v10 v11 v12 f (apN f b) key (rN f) (hf0) (hn) (by omega)) (cwV 2 hts (lw_V q1492 q1494 qs41 q67 q1495) rfl rfl rfl (by decide +kernel) ⟨Nat.le_of_ble_eq_true rfl, Nat.le_of_ble_eq_true rfl⟩) hC hS (fun _ h => hA _ (Nat.le_trans hS.1 h)) (hP.sub (ws' := [(m0, .inr (4, [.ref sa, .ref pa, .ref ha, .int v3, .int v4, .ref xa, .int v6, .int v7, .int v8, .int v9, .int v10, .int v11, .int v12, .ref ta])), (sa, .inl (dA 0, 718, .inl f))]) [0, 1] rfl) (va_recv hK hP (ci := 4) (q0 := 0) rfl rfl) rfl rfl hl.1 (Nat.le_of_ble_eq_true rfl) dX4_read_42 ⟨Nat.le_of_ble_eq_true rfl, Nat.le_of_ble_eq_true rfl⟩ (fun r_10 H locs hQ hF hS => ?_)
          have hP := va_P.ro hF hP
          obtain rfl : valueAt f (rN f) key (apN f b) = r_10 := hQ.symm
          refine lv_goto (tgt := 50) hx hb dX4_read_45 (by decide) ?_
          exact z_iret (v := valueAt f (rN f) key (apN f b)) hx hb hr hS (by unfold aRead; simp only [nI_clamp (show b < 2 ^ 31 by omega)]; (repeat' split) <;> first | rfl | contradiction | (exfalso; simp_all; done)) (by omega) (by omega) dX4_read_50
      · have c_6 := bI_0.1 c_6
        refine lv_ldc (v := (-1000001)) hx hb hown (hts _ q1382) dX4_read_22 ?_
        exact z_iret (v := (-1000001)) hx hb hr hS (by unfold aRead; simp only [nI_clamp (show b < 2 ^ 31 by omega)]; (repeat' split) <;> first | rfl | contradiction | (exfalso; simp_all; done)) (by omega) (by omega) dX4_read_24

set_option maxHeartbeats 4000000 in
set_option maxRecDepth 100000 in
theorem mX4_fence (l : Launch) (D : va_G) (dA : Nat → ClassId) (ad : Nat → Nat) (sz : Nat) (m0 : Nat) (sa : Nat) (pa : Nat) (ha : Nat) (xa : Nat) (ta : Nat) (v3 : Int32) (v4 : Int32) (v6 : Int32) (v7 : Int32) (v8 : Int32) (v9 : Int32) (v10 : Int32) (v11 : Int32) (v12 : Int32) (f : Nat → Int32) (key : Int32) (hI : InvA f) : Met l yX4_fence (ws_ yX4_fence cX4_fence 3 (some .int)) ({ frames := 3, cells := 0, slots := 0, locals := 90 }) (va_Pc [.ref m0, .int key] (zP D dA ad (fun q => sz ≤ q) sz (fun H => va_P D vwCl [(m0, .inr (4, [.ref sa, .ref pa, .ref ha, .int v3, .int v4, .ref xa, .int v6, .int v7, .int v8, .int v9, .int v10, .int v11, .int v12, .ref ta])), (sa, .inl (dA 0, 718, .inl f))] H))) (zQi (fun rz H => rz = aFence f key) (fun q => sz ≤ q)) (0) (0) (fun q => sz ≤ q) := by
  refine Met.ofW (cc := cX4_fence) (maxL := 3) (ret := (some .int)) (by decide) rfl ?_
  intro p e s m args below meth c s₁ B hml hv
  obtain ⟨rfl, hsz, hC, hP⟩ := hv
  have hx := B.exec
  have hb := B.bytes
  have hr := B.returns
  have hts := atoms_spec (ws := ws_ yX4_fence cX4_fence 3 (some .int)) B.pre
  have hts : ∀ w ∈ lw_all, w.before _ s = true := fun w h => hts w (List.mem_cons_of_mem _ h)
  have hown : s.vm.findClass RX4 = some m.cls := findClass_of_methodNamed B.named
  have hlocks := B.notSynchronized
  subst hsz
  have hK := hC.K
  have hA : ∀ q : Nat, s.heap.size ≤ q → s.heap.size ≤ q := fun _ h => h
  have hS : va_S (fun q => s.heap.size ≤ q) s.heap s.heap [] := va_S.rf
  have hP : va_P D vwCl [(m0, .inr (4, [.ref sa, .ref pa, .ref ha, .int v3, .int v4, .ref xa, .int v6, .int v7, .int v8, .int v9, .int v10, .int v11, .int v12, .ref ta])), (sa, .inl (dA 0, 718, .inl f))] s.heap := hP
  obtain ⟨hf0, hn, hsb, hrt, hrt2⟩ := hI
  have hlc := lastCommit_le f (rN f) key (rN f)
  have hl := lv_entry ([.ref m0, .int key]) (n := 3) (Nat.le_of_ble_eq_true rfl)
  rw [lg_entry_eq]
  generalize (lg_sl ([.ref m0, .int key]) ++ List.replicate (3 - (lg_sl ([.ref m0, .int key])).length) Slot.unset).toArray = ls at hl ⊢
  have hl : lv_has ls 3 [(0, .ref m0), (1, .int key)] := hl
  refine lv_iload_n hx hb dX4_fence_0 rfl (lv_at hl 1 rfl) ?_
  refine z_cSi (As := [.int key]) (rest := []) ⟨hx, hb, hml, hown, hts⟩ (mX4_isKey l D dA ad s.heap.size key) (va_cwS 1 hts (lw_S q1392 q1393 q67 q1394) rfl rfl rfl (by decide +kernel) ⟨Nat.le_of_ble_eq_true rfl, Nat.le_of_ble_eq_true rfl⟩) hC hS (fun _ h => hA _ (Nat.le_trans hS.1 h)) trivial rfl rfl hl.1 (Nat.le_of_ble_eq_true rfl) dX4_fence_1 ⟨Nat.le_of_ble_eq_true rfl, Nat.le_of_ble_eq_true rfl⟩ (fun r_1 H locs hQ hF hS => ?_)
  have hP := va_P.ro hF hP
  obtain rfl : bI (nI (0) ≤ key ∧ key ≤ nI (23)) = r_1 := hQ.symm
  refine lv_if_ne (tgt := 10) hx hb dX4_fence_4 (by decide) (fun c_2 => ?_) (fun c_2 => ?_)
  · have c_2 := bI_1.1 c_2
    refine lv_aload_n hx hb dX4_fence_10 rfl (lv_at hl 0 rfl) ?_
    refine lv_aload_n hx hb dX4_fence_11 rfl (lv_at hl 0 rfl) ?_
    refine va_get (D := D) (ci := 4) (v := .ref sa) (C := RX4) (T := TX4) (N := 14) hx hb hts in_X4 hown hK hP 0 rfl rfl 0 (by decide) (hts _ q1329) (fun _ h9 => h9) rfl dX4_fence_12 ?_
    refine lv_iconst (v := nI (0)) hx hb dX4_fence_15 (by decide) ?_
    refine va_iald hx hb hK hP 1 0 rfl rfl (vp_in_nI (by omega) (by omega)) dX4_fence_16 ?_
    refine lv_tope (y := f 0) (by rw [nI_clamp (by omega)]) ?_
    refine lv_tope (y := nI (rN f)) (hf0) ?_
    refine lv_iload_n hx hb dX4_fence_17 rfl (lv_at hl 1 rfl) ?_
    refine z_cVi (As := [.int (nI (rN f)), .int key]) (rest := []) ⟨hx, hb, hml, hown, hts⟩ (mX4_lastCommit l D dA ad H.size m0 sa pa ha xa ta v3 v4 v6 v7 v8 v9 v10 v11 v12 f (rN f) key (rN f) (hf0) (hn) (hn)) (cwV 2 hts (lw_V q1496 q1498 qs42 q67 q1499) rfl rfl rfl (by decide +kernel) ⟨Nat.le_of_ble_eq_true rfl, Nat.le_of_ble_eq_true rfl⟩) hC hS (fun _ h => hA _ (Nat.le_trans hS.1 h)) (hP.sub (ws' := [(m0, .inr (4, [.ref sa, .ref pa, .ref ha, .int v3, .int v4, .ref xa, .int v6, .int v7, .int v8, .int v9, .int v10, .int v11, .int v12, .ref ta])), (sa, .inl (dA 0, 718, .inl f))]) [0, 1] rfl) (va_recv hK hP (ci := 4) (q0 := 0) rfl rfl) rfl rfl hl.1 (Nat.le_of_ble_eq_true rfl) dX4_fence_18 ⟨Nat.le_of_ble_eq_true rfl, Nat.le_of_ble_eq_true rfl⟩ (fun r_3 H locs hQ hF hS => ?_)
    have hP := va_P.ro hF hP
    obtain rfl : nI (lastCommit f (rN f) key (rN f)) = r_3 := hQ.symm
    refine lv_istore_n (lv' := [(2, .int (nI (lastCommit f (rN f) key (rN f)))), (0, .ref m0), (1, .int key)]) hx hb dX4_fence_21 rfl hl (by decide) rfl (fun ls hl => ?_)
    refine lv_iload_n hx hb dX4_fence_22 rfl (lv_at hl 0 rfl) ?_
    refine lv_if_ne (tgt := 31) hx hb dX4_fence_23 (by decide) (fun c_4 => ?_) (fun c_4 => ?_)
    · have c_4 := mt (nI_eq (by omega) (by omega)).2 (show ¬ nI _ = nI 0 from c_4)
      refine lv_iload_n hx hb dX4_fence_31 rfl (lv_at hl 0 rfl) ?_
      exact z_iret (v := nI (lastCommit f (rN f) key (rN f))) hx hb hr hS (by unfold aFence; (repeat' split) <;> first | rfl | contradiction | (exfalso; simp_all; done)) (by omega) (by omega) dX4_fence_32
    · have c_4 := (nI_eq (by omega) (by omega)).1 (show nI _ = nI 0 from c_4)
      refine lv_ldc (v := (-1000004)) hx hb hown (hts _ q1408) dX4_fence_26 ?_
      refine lv_goto (tgt := 32) hx hb dX4_fence_28 (by decide) ?_
      exact z_iret (v := (-1000004)) hx hb hr hS (by unfold aFence; (repeat' split) <;> first | rfl | contradiction | (exfalso; simp_all; done)) (by omega) (by omega) dX4_fence_32
  · have c_2 := bI_0.1 c_2
    refine lv_ldc (v := (-1000001)) hx hb hown (hts _ q1382) dX4_fence_7 ?_
    exact z_iret (v := (-1000001)) hx hb hr hS (by unfold aFence; (repeat' split) <;> first | rfl | contradiction | (exfalso; simp_all; done)) (by omega) (by omega) dX4_fence_9
