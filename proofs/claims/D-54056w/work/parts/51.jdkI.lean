set_option maxHeartbeats 4000000 in
set_option maxRecDepth 100000 in
theorem mJ18_numberOfLeadingZeros (l : Launch) (D : va_G) (dA : Nat → ClassId) (ad : Nat → Nat) (sz : Nat) (w : Nat) (h1 : 1 ≤ w) (h2 : w < 2 ^ 64) : Met l yJ18_numberOfLeadingZeros (ws_ yJ18_numberOfLeadingZeros cJ18_numberOfLeadingZeros 3 (some .int)) ({ frames := 1, cells := 0, slots := 0, locals := 30 }) (va_Pc [.long (lN (w))] (zP D dA ad (fun q => sz ≤ q) sz (fun H => True))) (zQi (fun rz H => (∃ r, rz = nI r ∧ r ≤ 63 ∧ w < 2 ^ (64 - r))) (fun q => sz ≤ q)) (0) (0) (fun q => sz ≤ q) := by
  refine Met.ofW (cc := cJ18_numberOfLeadingZeros) (maxL := 3) (ret := (some .int)) (by decide) rfl ?_
  intro p e s m args below meth c s₁ B hml hv
  obtain ⟨rfl, hsz, hC, hP⟩ := hv
  have hx := B.exec
  have hb := B.bytes
  have hr := B.returns
  have hts := atoms_spec (ws := ws_ yJ18_numberOfLeadingZeros cJ18_numberOfLeadingZeros 3 (some .int)) B.pre
  have hts : ∀ w ∈ lw_all, w.before _ s = true := fun w h => hts w (List.mem_cons_of_mem _ h)
  have hown : s.vm.findClass RJ18 = some m.cls := findClass_of_methodNamed B.named
  have hlocks := B.notSynchronized
  subst hsz
  have hK := hC.K
  have hA : ∀ q : Nat, s.heap.size ≤ q → s.heap.size ≤ q := fun _ h => h
  have hS : va_S (fun q => s.heap.size ≤ q) s.heap s.heap [] := va_S.rf
  have hP : va_P D vwCl [] s.heap := va_Pnil
  have hl := lv_entry ([.long (lN (w))]) (n := 3) (Nat.le_of_ble_eq_true rfl)
  rw [lg_entry_eq]
  generalize (lg_sl ([.long (lN (w))]) ++ List.replicate (3 - (lg_sl ([.long (lN (w))])).length) Slot.unset).toArray = ls at hl ⊢
  have hl : lv_has ls 3 [(0, .long (lN (w)))] := hl
  refine lv_lload_n hx hb dJ18_numberOfLeadingZeros_0 rfl (lv_at hl 0 rfl) ?_
  refine lv_bipush (v := nI (32)) hx hb dJ18_numberOfLeadingZeros_1 (by decide) ?_
  refine lv_lushr (v := lN (w / 2 ^ 32)) hx hb dJ18_numberOfLeadingZeros_3 (wb_shr h2 (by decide)) ?_
  refine lv_l2i (v := nI (w / 2 ^ 32)) hx hb dJ18_numberOfLeadingZeros_4 (l2i_n _) ?_
  refine lv_istore_n (lv' := [(2, .int (nI (w / 2 ^ 32))), (0, .long (lN (w)))]) hx hb dJ18_numberOfLeadingZeros_5 rfl hl (by decide) rfl (fun ls hl => ?_)
  refine lv_iload_n hx hb dJ18_numberOfLeadingZeros_6 rfl (lv_at hl 0 rfl) ?_
  refine lv_if_ne (tgt := 21) hx hb dJ18_numberOfLeadingZeros_7 (by decide) (fun c_1 => ?_) (fun c_1 => ?_)
  · have c_1 := mt (nI0_32 (by omega)).2 c_1
    refine lv_iload_n hx hb dJ18_numberOfLeadingZeros_21 rfl (lv_at hl 0 rfl) ?_
    refine z_cSi (As := [.int (nI (w / 2 ^ 32))]) (rest := []) ⟨hx, hb, hml, hown, hts⟩ (mJ20_numberOfLeadingZeros l D dA ad s.heap.size (w / 2 ^ 32) (by omega) (by omega)) (va_cwS 1 hts (lw_S q785 q786 q83 q787) rfl rfl rfl (by decide +kernel) ⟨Nat.le_of_ble_eq_true rfl, Nat.le_of_ble_eq_true rfl⟩) hC hS (fun _ h => hA _ (Nat.le_trans hS.1 h)) trivial rfl rfl hl.1 (Nat.le_of_ble_eq_true rfl) dJ18_numberOfLeadingZeros_22 ⟨Nat.le_of_ble_eq_true rfl, Nat.le_of_ble_eq_true rfl⟩ (fun r_2 H locs hQ hF hS => ?_)
    obtain ⟨r9, hr9, hr8, hr7⟩ := hQ
    exact z_iret (v := r_2) hx hb hr hS (⟨r9, hr9, by omega, nlz_hi hr8 hr7⟩) (by omega) (by omega) dJ18_numberOfLeadingZeros_25
  · have c_1 := (nI0_32 (by omega)).1 c_1
    refine lv_bipush (v := nI (32)) hx hb dJ18_numberOfLeadingZeros_10 (by decide) ?_
    refine lv_lload_n hx hb dJ18_numberOfLeadingZeros_12 rfl (lv_at hl 1 rfl) ?_
    refine lv_l2i (v := nI (w)) hx hb dJ18_numberOfLeadingZeros_13 (l2i_n _) ?_
    refine z_cSi (As := [.int (nI (w))]) (rest := [.int (nI (32))]) ⟨hx, hb, hml, hown, hts⟩ (mJ20_numberOfLeadingZeros l D dA ad s.heap.size w (by omega) (by omega)) (va_cwS 1 hts (lw_S q785 q786 q83 q787) rfl rfl rfl (by decide +kernel) ⟨Nat.le_of_ble_eq_true rfl, Nat.le_of_ble_eq_true rfl⟩) hC hS (fun _ h => hA _ (Nat.le_trans hS.1 h)) trivial rfl rfl hl.1 (Nat.le_of_ble_eq_true rfl) dJ18_numberOfLeadingZeros_14 ⟨Nat.le_of_ble_eq_true rfl, Nat.le_of_ble_eq_true rfl⟩ (fun r_3 H locs hQ hF hS => ?_)
    obtain ⟨r9, hr9, hr8, hr7⟩ := hQ
    refine lv_iadd hx hb dJ18_numberOfLeadingZeros_17 ?_
    refine lv_tope (y := nI (32 + r9)) (by rw [hr9]; exact nI_add _ _) ?_
    refine lv_goto (tgt := 25) hx hb dJ18_numberOfLeadingZeros_18 (by decide) ?_
    exact z_iret (v := nI (32 + r9)) hx hb hr hS (⟨32 + r9, rfl, by omega, by rw [show 64 - (32 + r9) = 32 - r9 by omega]; exact hr7⟩) (by omega) (by omega) dJ18_numberOfLeadingZeros_25

set_option maxHeartbeats 4000000 in
set_option maxRecDepth 100000 in
theorem mJ3_length (l : Launch) (D : va_G) (dA : Nat → ClassId) (ad : Nat → Nat) (sz : Nat) (bs : Nat) (bw : Nat) (stk : Int32) (V : Nat) (h1 : 1 ≤ V) (h2 : V < 2 ^ 64) : Met l yJ3_length (ws_ yJ3_length cJ3_length 1 (some .int)) ({ frames := 2, cells := 0, slots := 0, locals := 60 }) (va_Pc [.ref bs] (zP D dA ad (fun q => sz ≤ q) sz (fun H => va_P D vwCl [(bs, .inr (10, [.ref bw, .int (nI (1)), .int stk])), (bw, .inl (dA 1, 2, .inr (.inl (lwd V))))] H))) (zQi (fun rz H => (∃ r, rz = nI r ∧ 1 ≤ r ∧ r ≤ 64 ∧ V < 2 ^ r)) (fun q => sz ≤ q)) (0) (0) (fun q => sz ≤ q) := by
  refine Met.ofW (cc := cJ3_length) (maxL := 1) (ret := (some .int)) (by decide) rfl ?_
  intro p e s m args below meth c s₁ B hml hv
  obtain ⟨rfl, hsz, hC, hP⟩ := hv
  have hx := B.exec
  have hb := B.bytes
  have hr := B.returns
  have hts := atoms_spec (ws := ws_ yJ3_length cJ3_length 1 (some .int)) B.pre
  have hts : ∀ w ∈ lw_all, w.before _ s = true := fun w h => hts w (List.mem_cons_of_mem _ h)
  have hown : s.vm.findClass RJ3 = some m.cls := findClass_of_methodNamed B.named
  have hlocks := B.notSynchronized
  subst hsz
  have hK := hC.K
  have hA : ∀ q : Nat, s.heap.size ≤ q → s.heap.size ≤ q := fun _ h => h
  have hS : va_S (fun q => s.heap.size ≤ q) s.heap s.heap [] := va_S.rf
  have hP : va_P D vwCl [(bs, .inr (10, [.ref bw, .int (nI (1)), .int stk])), (bw, .inl (dA 1, 2, .inr (.inl (lwd V))))] s.heap := hP
  have hl := lv_entry ([.ref bs]) (n := 1) (Nat.le_of_ble_eq_true rfl)
  rw [lg_entry_eq]
  generalize (lg_sl ([.ref bs]) ++ List.replicate (1 - (lg_sl ([.ref bs])).length) Slot.unset).toArray = ls at hl ⊢
  have hl : lv_has ls 1 [(0, .ref bs)] := hl
  refine lv_aload_n hx hb dJ3_length_0 rfl (lv_at hl 0 rfl) ?_
  refine va_get (D := D) (ci := 10) (v := .int (nI (1))) (C := RJ3) (T := TJ3) (N := 3) hx hb hts in_J3 hown hK hP 0 rfl rfl 1 (by decide) (hts _ q161) (fun _ h9 => h9) rfl dJ3_length_1 ?_
  refine lv_if_ne (tgt := 9) hx hb dJ3_length_4 (by decide) (fun c_1 => ?_) (fun c_1 => ?_)
  · refine lv_bipush (v := nI (64)) hx hb dJ3_length_9 (by decide) ?_
    refine lv_aload_n hx hb dJ3_length_11 rfl (lv_at hl 0 rfl) ?_
    refine va_get (D := D) (ci := 10) (v := .int (nI (1))) (C := RJ3) (T := TJ3) (N := 3) hx hb hts in_J3 hown hK hP 0 rfl rfl 1 (by decide) (hts _ q161) (fun _ h9 => h9) rfl dJ3_length_12 ?_
    refine lv_iconst (v := nI (1)) hx hb dJ3_length_15 (by decide) ?_
    refine lv_isub hx hb dJ3_length_16 ?_
    refine lv_tope (y := nI (0)) (by decide) ?_
    refine lv_imul hx hb dJ3_length_17 ?_
    refine lv_tope (y := nI (0)) (by decide) ?_
    refine lv_bipush (v := nI (64)) hx hb dJ3_length_18 (by decide) ?_
    refine lv_aload_n hx hb dJ3_length_20 rfl (lv_at hl 0 rfl) ?_
    refine va_get (D := D) (ci := 10) (v := .ref bw) (C := RJ3) (T := TJ3) (N := 3) hx hb hts in_J3 hown hK hP 0 rfl rfl 0 (by decide) (hts _ q160) (fun _ h9 => h9) rfl dJ3_length_21 ?_
    refine lv_aload_n hx hb dJ3_length_24 rfl (lv_at hl 0 rfl) ?_
    refine va_get (D := D) (ci := 10) (v := .int (nI (1))) (C := RJ3) (T := TJ3) (N := 3) hx hb hts in_J3 hown hK hP 0 rfl rfl 1 (by decide) (hts _ q161) (fun _ h9 => h9) rfl dJ3_length_25 ?_
    refine lv_iconst (v := nI (1)) hx hb dJ3_length_28 (by decide) ?_
    refine lv_isub hx hb dJ3_length_29 ?_
    refine lv_tope (y := nI (0)) (by decide) ?_
    refine va_lald hx hb hK hP 1 1 rfl rfl (vp_in_nI (by omega) (by omega)) dJ3_length_30 ?_
    refine lv_topel (y := (lwd V) 0) (by rw [nI_clamp (by omega)]) ?_
    refine lv_topel (y := lN (V)) (by show lN (V % 2 ^ 64) = lN V; rw [Nat.mod_eq_of_lt h2]) ?_
    refine z_cSi (As := [.long (lN (V))]) (rest := [.int (nI (64)), .int (nI (0))]) ⟨hx, hb, hml, hown, hts⟩ (mJ18_numberOfLeadingZeros l D dA ad s.heap.size V (by omega) (by omega)) (va_cwS 1 hts (lw_S q782 q783 q81 q784) rfl rfl rfl (by decide +kernel) ⟨Nat.le_of_ble_eq_true rfl, Nat.le_of_ble_eq_true rfl⟩) hC hS (fun _ h => hA _ (Nat.le_trans hS.1 h)) trivial rfl rfl hl.1 (Nat.le_of_ble_eq_true rfl) dJ3_length_31 ⟨Nat.le_of_ble_eq_true rfl, Nat.le_of_ble_eq_true rfl⟩ (fun r_2 H locs hQ hF hS => ?_)
    have hP := va_P.ro hF hP
    obtain ⟨r9, hr9, hr8, hr7⟩ := hQ
    refine lv_isub hx hb dJ3_length_34 ?_
    refine lv_tope (y := nI (64 - r9)) (by rw [hr9]; exact pk_sub (by omega)) ?_
    refine lv_iadd hx hb dJ3_length_35 ?_
    refine lv_tope (y := nI (0 + (64 - r9))) (nI_add _ _) ?_
    exact z_iret (v := nI (0 + (64 - r9))) hx hb hr hS (⟨_, rfl, by omega, by omega, by rw [show 0 + (64 - r9) = 64 - r9 by omega]; exact hr7⟩) (by omega) (by omega) dJ3_length_36
  · exact absurd c_1 (by decide)

set_option maxHeartbeats 4000000 in
set_option maxRecDepth 100000 in
theorem mJ3_checkRange (l : Launch) (D : va_G) (dA : Nat → ClassId) (ad : Nat → Nat) (sz : Nat) (i : Nat) (j : Nat) (h1 : i ≤ j) (h2 : j < 2 ^ 31) : Met l yJ3_checkRange (ws_ yJ3_checkRange cJ3_checkRange 2 none) ({ frames := 0, cells := 0, slots := 0, locals := 0 }) (va_Pc [.int (nI (i)), .int (nI (j))] (zP D dA ad (fun q => sz ≤ q) sz (fun H => True))) (zQv (fun H => True) (fun q => sz ≤ q)) (0) (0) (fun q => sz ≤ q) := by
  refine Met.ofW (cc := cJ3_checkRange) (maxL := 2) (ret := none) (by decide) rfl ?_
  intro p e s m args below meth c s₁ B hml hv
  obtain ⟨rfl, hsz, hC, hP⟩ := hv
  have hx := B.exec
  have hb := B.bytes
  have hr := B.returns
  have hts := atoms_spec (ws := ws_ yJ3_checkRange cJ3_checkRange 2 none) B.pre
  have hts : ∀ w ∈ lw_all, w.before _ s = true := fun w h => hts w (List.mem_cons_of_mem _ h)
  have hown : s.vm.findClass RJ3 = some m.cls := findClass_of_methodNamed B.named
  have hlocks := B.notSynchronized
  subst hsz
  have hK := hC.K
  have hA : ∀ q : Nat, s.heap.size ≤ q → s.heap.size ≤ q := fun _ h => h
  have hS : va_S (fun q => s.heap.size ≤ q) s.heap s.heap [] := va_S.rf
  have hP : va_P D vwCl [] s.heap := va_Pnil
  have hl := lv_entry ([.int (nI (i)), .int (nI (j))]) (n := 2) (Nat.le_of_ble_eq_true rfl)
  rw [lg_entry_eq]
  generalize (lg_sl ([.int (nI (i)), .int (nI (j))]) ++ List.replicate (2 - (lg_sl ([.int (nI (i)), .int (nI (j))])).length) Slot.unset).toArray = ls at hl ⊢
  have hl : lv_has ls 2 [(0, .int (nI (i))), (1, .int (nI (j)))] := hl
  refine lv_iload_n hx hb dJ3_checkRange_0 rfl (lv_at hl 0 rfl) ?_
  refine lv_if_ge (tgt := 31) hx hb dJ3_checkRange_1 (by decide) (fun c_1 => ?_) (fun c_1 => ?_)
  · refine lv_iload_n hx hb dJ3_checkRange_31 rfl (lv_at hl 1 rfl) ?_
    refine lv_if_ge (tgt := 62) hx hb dJ3_checkRange_32 (by decide) (fun c_2 => ?_) (fun c_2 => ?_)
    · refine lv_iload_n hx hb dJ3_checkRange_62 rfl (lv_at hl 0 rfl) ?_
      refine lv_iload_n hx hb dJ3_checkRange_63 rfl (lv_at hl 1 rfl) ?_
      refine lv_icmp_le (tgt := 103) hx hb dJ3_checkRange_64 (by decide) (fun c_3 => ?_) (fun c_3 => ?_)
      · have c_3 := (nI_leI (by omega) (by omega)).1 c_3
        exact z_vret hx hb hr hS (trivial) (by omega) (by omega) dJ3_checkRange_103
      · have c_3 := mt (nI_leI (by omega) (by omega)).2 c_3
        omega
    · exact absurd (nI_pos' (by omega)) c_2
  · exact absurd (nI_pos' (by omega)) c_1

set_option maxHeartbeats 4000000 in
set_option maxRecDepth 100000 in
theorem mJ3_clear_2 (l : Launch) (D : va_G) (dA : Nat → ClassId) (ad : Nat → Nat) (A : Nat → Prop) (sz : Nat) (bs : Nat) (bw : Nat) (stk : Int32) (Wb : Nat) (n : Nat) (hA : ∀ q, sz ≤ q → A q) (hW : Wb < 2 ^ 101) (h1 : 1 ≤ n) (h2 : n ≤ 101) (hD : va_D A [(bs, .inr (10, [.ref bw, .int (nI (uOf Wb)), .int stk])), (bw, .inl (dA 1, 2, .inr (.inl (lwd Wb))))]) : Met l yJ3_clear_2 (ws_ yJ3_clear_2 cJ3_clear_2 10 none) ({ frames := 3, cells := 0, slots := 0, locals := 100 }) (va_Pc [.ref bs, .int (nI (n)), .int (nI (101))] (zP D dA ad A sz (fun H => va_P D vwCl [(bs, .inr (10, [.ref bw, .int (nI (uOf Wb)), .int stk])), (bw, .inl (dA 1, 2, .inr (.inl (lwd Wb))))] H))) (zQv (fun H => True ∧ va_P D vwCl [(bs, .inr (10, [.ref bw, .int (nI (uOf (Wb % 2 ^ n))), .int stk])), (bw, .inl (dA 1, 2, .inr (.inl (lwd (Wb % 2 ^ n)))))] H) A) (0) (0) A := by
  refine Met.ofW (cc := cJ3_clear_2) (maxL := 10) (ret := none) (by decide) rfl ?_
  intro p e s m args below meth c s₁ B hml hv
  obtain ⟨rfl, hsz, hC, hP⟩ := hv
  have hx := B.exec
  have hb := B.bytes
  have hr := B.returns
  have hts := atoms_spec (ws := ws_ yJ3_clear_2 cJ3_clear_2 10 none) B.pre
  have hts : ∀ w ∈ lw_all, w.before _ s = true := fun w h => hts w (List.mem_cons_of_mem _ h)
  have hown : s.vm.findClass RJ3 = some m.cls := findClass_of_methodNamed B.named
  have hlocks := B.notSynchronized
  subst hsz
  have hK := hC.K
  have hS : va_S A s.heap s.heap [] := va_S.rf
  have hP : va_P D vwCl [(bs, .inr (10, [.ref bw, .int (nI (uOf Wb)), .int stk])), (bw, .inl (dA 1, 2, .inr (.inl (lwd Wb))))] s.heap := hP
  have huo := uOf_mod Wb n
  have hmle := Nat.mod_le Wb (2 ^ n)
  have hl := lv_entry ([.ref bs, .int (nI (n)), .int (nI (101))]) (n := 10) (Nat.le_of_ble_eq_true rfl)
  rw [lg_entry_eq]
  generalize (lg_sl ([.ref bs, .int (nI (n)), .int (nI (101))]) ++ List.replicate (10 - (lg_sl ([.ref bs, .int (nI (n)), .int (nI (101))])).length) Slot.unset).toArray = ls at hl ⊢
  have hl : lv_has ls 10 [(0, .ref bs), (1, .int (nI (n))), (2, .int (nI (101)))] := hl
  rcases Nat.lt_or_ge n 64 with hn9 | hn9
  · rcases uOf_c Wb with ⟨hu, hu2⟩ | ⟨hu, hu2, hu3⟩ | ⟨hu, hu2⟩
    · rw [hu] at hP hD
      have hP : va_P D vwCl [(bs, .inr (10, [.ref bw, .int (nI (0)), .int stk])), (bw, .inl (dA 1, 2, .inr (.inl (lwd Wb))))] s.heap := hP
      have hD : va_D A [(bs, .inr (10, [.ref bw, .int (nI (0)), .int stk])), (bw, .inl (dA 1, 2, .inr (.inl (lwd Wb))))] := hD
      refine lv_iload_n hx hb dJ3_clear_2_0 rfl (lv_at hl 1 rfl) ?_
      refine lv_iload_n hx hb dJ3_clear_2_1 rfl (lv_at hl 2 rfl) ?_
      refine z_cSv (As := [.int (nI (n)), .int (nI (101))]) (rest := []) ⟨hx, hb, hml, hown, hts⟩ (mJ3_checkRange l D dA ad s.heap.size n 101 (by omega) (by omega)) (va_cwS 2 hts (lw_S q775 q776 q61 q777) rfl rfl rfl (by decide +kernel) ⟨Nat.le_of_ble_eq_true rfl, Nat.le_of_ble_eq_true rfl⟩) hC hS (fun _ h => hA _ (Nat.le_trans hS.1 h)) trivial rfl rfl hl.1 (Nat.le_of_ble_eq_true rfl) dJ3_clear_2_2 ⟨Nat.le_of_ble_eq_true rfl, Nat.le_of_ble_eq_true rfl⟩ (fun H locs hQ hF hS => ?_)
      have hP := va_P.ro hF hP
      refine lv_iload_n hx hb dJ3_clear_2_5 rfl (lv_at hl 1 rfl) ?_
      refine lv_iload_n hx hb dJ3_clear_2_6 rfl (lv_at hl 2 rfl) ?_
      refine lv_icmp_ne (tgt := 11) hx hb dJ3_clear_2_7 (by decide) (fun c_2 => ?_) (fun c_2 => ?_)
      · have c_2 := mt (nI_eq (by omega) (by omega)).2 c_2
        refine lv_iload_n hx hb dJ3_clear_2_11 rfl (lv_at hl 1 rfl) ?_
        refine z_cSi (As := [.int (nI (n))]) (rest := []) ⟨hx, hb, hml, hown, hts⟩ (mJ3_wordIndex l D dA ad H.size n (by omega)) (va_cwS 1 hts (lw_S q157 q158 q61 q159) rfl rfl rfl (by decide +kernel) ⟨Nat.le_of_ble_eq_true rfl, Nat.le_of_ble_eq_true rfl⟩) hC hS (fun _ h => hA _ (Nat.le_trans hS.1 h)) trivial rfl rfl hl.1 (Nat.le_of_ble_eq_true rfl) dJ3_clear_2_12 ⟨Nat.le_of_ble_eq_true rfl, Nat.le_of_ble_eq_true rfl⟩ (fun r_3 H locs hQ hF hS => ?_)
        have hP := va_P.ro hF hP
        obtain rfl : nI (n / 64) = r_3 := hQ.symm
        refine lv_tope (y := nI (0)) (by rw [show n / 64 = 0 by omega]) ?_
        refine lv_istore_n (lv' := [(3, .int (nI (0))), (0, .ref bs), (1, .int (nI (n))), (2, .int (nI (101)))]) hx hb dJ3_clear_2_15 rfl hl (by decide) rfl (fun ls hl => ?_)
        refine lv_iload_n hx hb dJ3_clear_2_16 rfl (lv_at hl 0 rfl) ?_
        refine lv_aload_n hx hb dJ3_clear_2_17 rfl (lv_at hl 1 rfl) ?_
        refine va_get (D := D) (ci := 10) (v := .int (nI (0))) (C := RJ3) (T := TJ3) (N := 3) hx hb hts in_J3 hown hK hP 0 rfl rfl 1 (by decide) (hts _ q161) (fun _ h9 => h9) rfl dJ3_clear_2_18 ?_
        refine lv_icmp_lt (tgt := 25) hx hb dJ3_clear_2_21 (by decide) (fun c_4 => ?_) (fun c_4 => ?_)
        · exact absurd c_4 (by decide)
        · exact z_vret hx hb hr hS (⟨trivial, by rw [show Wb % 2 ^ n = Wb from by rw [hu2, Nat.zero_mod], hu]; exact hP⟩) (by omega) (by omega) dJ3_clear_2_24
      · have c_2 := (nI_eq (by omega) (by omega)).1 c_2
        exact z_vret hx hb hr hS (⟨trivial, by rw [show Wb % 2 ^ n = Wb from by rw [show n = 101 by omega]; exact mod_all hW, hu]; exact hP⟩) (by omega) (by omega) dJ3_clear_2_10
    · rw [hu] at hP hD
      have hP : va_P D vwCl [(bs, .inr (10, [.ref bw, .int (nI (1)), .int stk])), (bw, .inl (dA 1, 2, .inr (.inl (lwd Wb))))] s.heap := hP
      have hD : va_D A [(bs, .inr (10, [.ref bw, .int (nI (1)), .int stk])), (bw, .inl (dA 1, 2, .inr (.inl (lwd Wb))))] := hD
      refine lv_iload_n hx hb dJ3_clear_2_0 rfl (lv_at hl 1 rfl) ?_
      refine lv_iload_n hx hb dJ3_clear_2_1 rfl (lv_at hl 2 rfl) ?_
      refine z_cSv (As := [.int (nI (n)), .int (nI (101))]) (rest := []) ⟨hx, hb, hml, hown, hts⟩ (mJ3_checkRange l D dA ad s.heap.size n 101 (by omega) (by omega)) (va_cwS 2 hts (lw_S q775 q776 q61 q777) rfl rfl rfl (by decide +kernel) ⟨Nat.le_of_ble_eq_true rfl, Nat.le_of_ble_eq_true rfl⟩) hC hS (fun _ h => hA _ (Nat.le_trans hS.1 h)) trivial rfl rfl hl.1 (Nat.le_of_ble_eq_true rfl) dJ3_clear_2_2 ⟨Nat.le_of_ble_eq_true rfl, Nat.le_of_ble_eq_true rfl⟩ (fun H locs hQ hF hS => ?_)
      have hP := va_P.ro hF hP
      refine lv_iload_n hx hb dJ3_clear_2_5 rfl (lv_at hl 1 rfl) ?_
      refine lv_iload_n hx hb dJ3_clear_2_6 rfl (lv_at hl 2 rfl) ?_
      refine lv_icmp_ne (tgt := 11) hx hb dJ3_clear_2_7 (by decide) (fun c_6 => ?_) (fun c_6 => ?_)
      · have c_6 := mt (nI_eq (by omega) (by omega)).2 c_6
        refine lv_iload_n hx hb dJ3_clear_2_11 rfl (lv_at hl 1 rfl) ?_
        refine z_cSi (As := [.int (nI (n))]) (rest := []) ⟨hx, hb, hml, hown, hts⟩ (mJ3_wordIndex l D dA ad H.size n (by omega)) (va_cwS 1 hts (lw_S q157 q158 q61 q159) rfl rfl rfl (by decide +kernel) ⟨Nat.le_of_ble_eq_true rfl, Nat.le_of_ble_eq_true rfl⟩) hC hS (fun _ h => hA _ (Nat.le_trans hS.1 h)) trivial rfl rfl hl.1 (Nat.le_of_ble_eq_true rfl) dJ3_clear_2_12 ⟨Nat.le_of_ble_eq_true rfl, Nat.le_of_ble_eq_true rfl⟩ (fun r_7 H locs hQ hF hS => ?_)
        have hP := va_P.ro hF hP
        obtain rfl : nI (n / 64) = r_7 := hQ.symm
        refine lv_tope (y := nI (0)) (by rw [show n / 64 = 0 by omega]) ?_
        refine lv_istore_n (lv' := [(3, .int (nI (0))), (0, .ref bs), (1, .int (nI (n))), (2, .int (nI (101)))]) hx hb dJ3_clear_2_15 rfl hl (by decide) rfl (fun ls hl => ?_)
        refine lv_iload_n hx hb dJ3_clear_2_16 rfl (lv_at hl 0 rfl) ?_
        refine lv_aload_n hx hb dJ3_clear_2_17 rfl (lv_at hl 1 rfl) ?_
        refine va_get (D := D) (ci := 10) (v := .int (nI (1))) (C := RJ3) (T := TJ3) (N := 3) hx hb hts in_J3 hown hK hP 0 rfl rfl 1 (by decide) (hts _ q161) (fun _ h9 => h9) rfl dJ3_clear_2_18 ?_
        refine lv_icmp_lt (tgt := 25) hx hb dJ3_clear_2_21 (by decide) (fun c_8 => ?_) (fun c_8 => ?_)
        · refine lv_iload_n hx hb dJ3_clear_2_25 rfl (lv_at hl 3 rfl) ?_
          refine lv_iconst (v := nI (1)) hx hb dJ3_clear_2_26 (by decide) ?_
          refine lv_isub hx hb dJ3_clear_2_27 ?_
          refine lv_tope (y := nI (100)) (by decide) ?_
          refine z_cSi (As := [.int (nI (100))]) (rest := []) ⟨hx, hb, hml, hown, hts⟩ (mJ3_wordIndex l D dA ad H.size 100 (by omega)) (va_cwS 1 hts (lw_S q157 q158 q61 q159) rfl rfl rfl (by decide +kernel) ⟨Nat.le_of_ble_eq_true rfl, Nat.le_of_ble_eq_true rfl⟩) hC hS (fun _ h => hA _ (Nat.le_trans hS.1 h)) trivial rfl rfl hl.1 (Nat.le_of_ble_eq_true rfl) dJ3_clear_2_28 ⟨Nat.le_of_ble_eq_true rfl, Nat.le_of_ble_eq_true rfl⟩ (fun r_9 H locs hQ hF hS => ?_)
          have hP := va_P.ro hF hP
          obtain rfl : nI (100 / 64) = r_9 := hQ.symm
          refine lv_tope (y := nI (1)) (rfl) ?_
          refine lv_istore (lv' := [(4, .int (nI (1))), (3, .int (nI (0))), (0, .ref bs), (1, .int (nI (n))), (2, .int (nI (101)))]) hx hb dJ3_clear_2_31 hl (by decide) rfl (fun ls hl => ?_)
          refine lv_iload hx hb dJ3_clear_2_33 (lv_at hl 0 rfl) ?_
          refine lv_aload_n hx hb dJ3_clear_2_35 rfl (lv_at hl 2 rfl) ?_
          refine va_get (D := D) (ci := 10) (v := .int (nI (1))) (C := RJ3) (T := TJ3) (N := 3) hx hb hts in_J3 hown hK hP 0 rfl rfl 1 (by decide) (hts _ q161) (fun _ h9 => h9) rfl dJ3_clear_2_36 ?_
          refine lv_icmp_lt (tgt := 55) hx hb dJ3_clear_2_39 (by decide) (fun c_10 => ?_) (fun c_10 => ?_)
          · exact absurd c_10 (by decide)
          · refine lv_aload_n hx hb dJ3_clear_2_42 rfl (lv_at hl 2 rfl) ?_
            refine z_cVi (As := []) (rest := []) ⟨hx, hb, hml, hown, hts⟩ (mJ3_length l D dA ad H.size bs bw stk Wb (by omega) (by omega)) (cwV 0 hts (lw_V q778 q779 q780 q61 q781) rfl rfl rfl (by decide +kernel) ⟨Nat.le_of_ble_eq_true rfl, Nat.le_of_ble_eq_true rfl⟩) hC hS (fun _ h => hA _ (Nat.le_trans hS.1 h)) (hP.sub (ws' := [(bs, .inr (10, [.ref bw, .int (nI (1)), .int stk])), (bw, .inl (dA 1, 2, .inr (.inl (lwd Wb))))]) [0, 1] rfl) (va_recv hK hP (ci := 10) (q0 := 0) rfl rfl) rfl rfl hl.1 (Nat.le_of_ble_eq_true rfl) dJ3_clear_2_43 ⟨Nat.le_of_ble_eq_true rfl, Nat.le_of_ble_eq_true rfl⟩ (fun r_11 H locs hQ hF hS => ?_)
            have hP := va_P.ro hF hP
            obtain ⟨r9, hr9, hr8, hr7, hr6⟩ := hQ
            refine lv_tope (y := nI (r9)) (hr9) ?_
            refine lv_istore_n (lv' := [(2, .int (nI (r9))), (4, .int (nI (1))), (3, .int (nI (0))), (0, .ref bs), (1, .int (nI (n)))]) hx hb dJ3_clear_2_46 rfl hl (by decide) rfl (fun ls hl => ?_)
            refine lv_aload_n hx hb dJ3_clear_2_47 rfl (lv_at hl 3 rfl) ?_
            refine va_get (D := D) (ci := 10) (v := .int (nI (1))) (C := RJ3) (T := TJ3) (N := 3) hx hb hts in_J3 hown hK hP 0 rfl rfl 1 (by decide) (hts _ q161) (fun _ h9 => h9) rfl dJ3_clear_2_48 ?_
            refine lv_iconst (v := nI (1)) hx hb dJ3_clear_2_51 (by decide) ?_
            refine lv_isub hx hb dJ3_clear_2_52 ?_
            refine lv_tope (y := nI (0)) (by decide) ?_
            refine lv_istore (lv' := [(4, .int (nI (0))), (2, .int (nI (r9))), (3, .int (nI (0))), (0, .ref bs), (1, .int (nI (n)))]) hx hb dJ3_clear_2_53 hl (by decide) rfl (fun ls hl => ?_)
            refine lv_ldc2 (v := (-1)) hx hb hown (hts _ q789) dJ3_clear_2_55 ?_
            refine lv_iload_n hx hb dJ3_clear_2_58 rfl (lv_at hl 4 rfl) ?_
            refine lv_lshl (v := lN (2 ^ 64 - 2 ^ (n % 64))) hx hb dJ3_clear_2_59 (bw_mo n (by omega)) ?_
            refine lv_lstore (lv' := [(5, .long (lN (2 ^ 64 - 2 ^ (n % 64)))), (4, .int (nI (0))), (2, .int (nI (r9))), (3, .int (nI (0))), (0, .ref bs), (1, .int (nI (n)))]) hx hb dJ3_clear_2_60 hl (by decide) rfl (fun ls hl => ?_)
            refine lv_ldc2 (v := (-1)) hx hb hown (hts _ q789) dJ3_clear_2_62 ?_
            refine lv_iload_n hx hb dJ3_clear_2_65 rfl (lv_at hl 2 rfl) ?_
            refine lv_ineg hx hb dJ3_clear_2_66 ?_
            refine lv_lushr (v := lN (mk64 r9)) hx hb dJ3_clear_2_67 (bw_ml _ (by omega)) ?_
            refine lv_lstore (lv' := [(7, .long (lN (mk64 r9))), (5, .long (lN (2 ^ 64 - 2 ^ (n % 64)))), (4, .int (nI (0))), (2, .int (nI (r9))), (3, .int (nI (0))), (0, .ref bs), (1, .int (nI (n)))]) hx hb dJ3_clear_2_68 hl (by decide) rfl (fun ls hl => ?_)
            refine lv_iload_n hx hb dJ3_clear_2_70 rfl (lv_at hl 4 rfl) ?_
            refine lv_iload hx hb dJ3_clear_2_71 (lv_at hl 2 rfl) ?_
            refine lv_icmp_ne (tgt := 97) hx hb dJ3_clear_2_73 (by decide) (fun c_12 => ?_) (fun c_12 => ?_)
            · exact absurd c_12 (by decide)
            · refine lv_aload_n hx hb dJ3_clear_2_76 rfl (lv_at hl 5 rfl) ?_
              refine va_get (D := D) (ci := 10) (v := .ref bw) (C := RJ3) (T := TJ3) (N := 3) hx hb hts in_J3 hown hK hP 0 rfl rfl 0 (by decide) (hts _ q160) (fun _ h9 => h9) rfl dJ3_clear_2_77 ?_
              refine lv_iload_n hx hb dJ3_clear_2_80 rfl (lv_at hl 4 rfl) ?_
              refine lv_dup2_11 hx hb dJ3_clear_2_81 rfl rfl ?_
              refine va_lald hx hb hK hP 1 1 rfl rfl (vp_in_nI (by omega) (by omega)) dJ3_clear_2_82 ?_
              refine lv_topel (y := (lwd Wb) 0) (by rw [nI_clamp (by omega)]) ?_
              refine lv_lload hx hb dJ3_clear_2_83 (lv_at hl 1 rfl) ?_
              refine lv_lload hx hb dJ3_clear_2_85 (lv_at hl 0 rfl) ?_
              refine lv_land hx hb dJ3_clear_2_87 ?_
              refine lv_ldc2 (v := (-1)) hx hb hown (hts _ q789) dJ3_clear_2_88 ?_
              refine lv_lxor hx hb dJ3_clear_2_91 ?_
              refine lv_land hx hb dJ3_clear_2_92 ?_
              refine va_last hx hb hK hP hD hS 1 1 rfl rfl (vp_in_nI (by omega) (by omega)) dJ3_clear_2_93 (fun H locs hP hD hS => ?_)
              rw [nI_clamp (by omega)] at hP hD
              have hP : va_P D vwCl [(bs, .inr (10, [.ref bw, .int (nI (1)), .int stk])), (bw, .inl (dA 1, 2, .inr (.inl (vp_updL (lwd Wb) 0 (((lwd Wb) 0) &&& (((lN (2 ^ 64 - 2 ^ (n % 64))) &&& (lN (mk64 r9))) ^^^ (-1)))))))] H := hP
              have hD : va_D A [(bs, .inr (10, [.ref bw, .int (nI (1)), .int stk])), (bw, .inl (dA 1, 2, .inr (.inl (vp_updL (lwd Wb) 0 (((lwd Wb) 0) &&& (((lN (2 ^ 64 - 2 ^ (n % 64))) &&& (lN (mk64 r9))) ^^^ (-1)))))))] := hD
              rw [show (vp_updL (lwd Wb) 0 (((lwd Wb) 0) &&& (((lN (2 ^ 64 - 2 ^ (n % 64))) &&& (lN (mk64 r9))) ^^^ (-1))) : Nat → Int64) = lwd (Wb % 2 ^ n) from cl_1 hu3 hn9 hr8 hr7 hr6] at hP hD
              refine lv_goto (tgt := 154) hx hb dJ3_clear_2_94 (by decide) ?_
              refine lv_aload_n hx hb dJ3_clear_2_154 rfl (lv_at hl 5 rfl) ?_
              refine z_cVv (As := []) (rest := []) ⟨hx, hb, hml, hown, hts⟩ (mJ3_recalculateWordsInUse l D dA ad A H.size bs bw stk 1 (Wb % 2 ^ n) (hA_up hA hS) (by omega) (by omega) (by omega) (hD.sub [0, 1] (by decide) rfl)) (cwV 0 hts (lw_V q790 q792 qs12 q61 q793) rfl rfl rfl (by decide +kernel) ⟨Nat.le_of_ble_eq_true rfl, Nat.le_of_ble_eq_true rfl⟩) hC hS (fun _ h => h) (hP.sub (ws' := [(bs, .inr (10, [.ref bw, .int (nI (1)), .int stk])), (bw, .inl (dA 1, 2, .inr (.inl (lwd (Wb % 2 ^ n)))))]) [0, 1] rfl) (va_recv hK hP (ci := 10) (q0 := 0) rfl rfl) rfl rfl hl.1 (Nat.le_of_ble_eq_true rfl) dJ3_clear_2_155 ⟨Nat.le_of_ble_eq_true rfl, Nat.le_of_ble_eq_true rfl⟩ (fun H locs hQ hF hS => ?_)
              obtain ⟨hQ, hP⟩ := hQ
              have hD := va_D.same (ws' := [(bs, .inr (10, [.ref bw, .int (nI (uOf (Wb % 2 ^ n))), .int stk])), (bw, .inl (dA 1, 2, .inr (.inl (lwd (Wb % 2 ^ n)))))]) (hD.sub (ws' := [(bs, .inr (10, [.ref bw, .int (nI (1)), .int stk])), (bw, .inl (dA 1, 2, .inr (.inl (lwd (Wb % 2 ^ n)))))]) [0, 1] (by decide) rfl) rfl
              have hP : va_P D vwCl [(bs, .inr (10, [.ref bw, .int (nI (uOf (Wb % 2 ^ n))), .int stk])), (bw, .inl (dA 1, 2, .inr (.inl (lwd (Wb % 2 ^ n)))))] H := hP
              have hD : va_D A [(bs, .inr (10, [.ref bw, .int (nI (uOf (Wb % 2 ^ n))), .int stk])), (bw, .inl (dA 1, 2, .inr (.inl (lwd (Wb % 2 ^ n)))))] := hD
              refine lv_aload_n hx hb dJ3_clear_2_158 rfl (lv_at hl 5 rfl) ?_
              refine z_cVv (As := []) (rest := []) ⟨hx, hb, hml, hown, hts⟩ (mJ3_checkInvariants l D dA ad H.size bs) (cwV 0 hts (lw_V q442 q444 qs6 q61 q445) rfl rfl rfl (by decide +kernel) ⟨Nat.le_of_ble_eq_true rfl, Nat.le_of_ble_eq_true rfl⟩) hC hS (fun _ h => hA _ (Nat.le_trans hS.1 h)) trivial (va_recv hK hP (ci := 10) (q0 := 0) rfl rfl) rfl rfl hl.1 (Nat.le_of_ble_eq_true rfl) dJ3_clear_2_159 ⟨Nat.le_of_ble_eq_true rfl, Nat.le_of_ble_eq_true rfl⟩ (fun H locs hQ hF hS => ?_)
              have hP := va_P.ro hF hP
              exact z_vret hx hb hr hS (⟨trivial, hP⟩) (by omega) (by omega) dJ3_clear_2_162
        · exact absurd c_8 (by decide)
      · have c_6 := (nI_eq (by omega) (by omega)).1 c_6
        exact z_vret hx hb hr hS (⟨trivial, by rw [show Wb % 2 ^ n = Wb from by rw [show n = 101 by omega]; exact mod_all hW, hu]; exact hP⟩) (by omega) (by omega) dJ3_clear_2_10
    · rw [hu] at hP hD
      have hP : va_P D vwCl [(bs, .inr (10, [.ref bw, .int (nI (2)), .int stk])), (bw, .inl (dA 1, 2, .inr (.inl (lwd Wb))))] s.heap := hP
      have hD : va_D A [(bs, .inr (10, [.ref bw, .int (nI (2)), .int stk])), (bw, .inl (dA 1, 2, .inr (.inl (lwd Wb))))] := hD
      refine lv_iload_n hx hb dJ3_clear_2_0 rfl (lv_at hl 1 rfl) ?_
      refine lv_iload_n hx hb dJ3_clear_2_1 rfl (lv_at hl 2 rfl) ?_
      refine z_cSv (As := [.int (nI (n)), .int (nI (101))]) (rest := []) ⟨hx, hb, hml, hown, hts⟩ (mJ3_checkRange l D dA ad s.heap.size n 101 (by omega) (by omega)) (va_cwS 2 hts (lw_S q775 q776 q61 q777) rfl rfl rfl (by decide +kernel) ⟨Nat.le_of_ble_eq_true rfl, Nat.le_of_ble_eq_true rfl⟩) hC hS (fun _ h => hA _ (Nat.le_trans hS.1 h)) trivial rfl rfl hl.1 (Nat.le_of_ble_eq_true rfl) dJ3_clear_2_2 ⟨Nat.le_of_ble_eq_true rfl, Nat.le_of_ble_eq_true rfl⟩ (fun H locs hQ hF hS => ?_)
      have hP := va_P.ro hF hP
      refine lv_iload_n hx hb dJ3_clear_2_5 rfl (lv_at hl 1 rfl) ?_
      refine lv_iload_n hx hb dJ3_clear_2_6 rfl (lv_at hl 2 rfl) ?_
      refine lv_icmp_ne (tgt := 11) hx hb dJ3_clear_2_7 (by decide) (fun c_16 => ?_) (fun c_16 => ?_)
      · have c_16 := mt (nI_eq (by omega) (by omega)).2 c_16
        refine lv_iload_n hx hb dJ3_clear_2_11 rfl (lv_at hl 1 rfl) ?_
        refine z_cSi (As := [.int (nI (n))]) (rest := []) ⟨hx, hb, hml, hown, hts⟩ (mJ3_wordIndex l D dA ad H.size n (by omega)) (va_cwS 1 hts (lw_S q157 q158 q61 q159) rfl rfl rfl (by decide +kernel) ⟨Nat.le_of_ble_eq_true rfl, Nat.le_of_ble_eq_true rfl⟩) hC hS (fun _ h => hA _ (Nat.le_trans hS.1 h)) trivial rfl rfl hl.1 (Nat.le_of_ble_eq_true rfl) dJ3_clear_2_12 ⟨Nat.le_of_ble_eq_true rfl, Nat.le_of_ble_eq_true rfl⟩ (fun r_17 H locs hQ hF hS => ?_)
        have hP := va_P.ro hF hP
        obtain rfl : nI (n / 64) = r_17 := hQ.symm
        refine lv_tope (y := nI (0)) (by rw [show n / 64 = 0 by omega]) ?_
        refine lv_istore_n (lv' := [(3, .int (nI (0))), (0, .ref bs), (1, .int (nI (n))), (2, .int (nI (101)))]) hx hb dJ3_clear_2_15 rfl hl (by decide) rfl (fun ls hl => ?_)
        refine lv_iload_n hx hb dJ3_clear_2_16 rfl (lv_at hl 0 rfl) ?_
        refine lv_aload_n hx hb dJ3_clear_2_17 rfl (lv_at hl 1 rfl) ?_
        refine va_get (D := D) (ci := 10) (v := .int (nI (2))) (C := RJ3) (T := TJ3) (N := 3) hx hb hts in_J3 hown hK hP 0 rfl rfl 1 (by decide) (hts _ q161) (fun _ h9 => h9) rfl dJ3_clear_2_18 ?_
        refine lv_icmp_lt (tgt := 25) hx hb dJ3_clear_2_21 (by decide) (fun c_18 => ?_) (fun c_18 => ?_)
        · refine lv_iload_n hx hb dJ3_clear_2_25 rfl (lv_at hl 3 rfl) ?_
          refine lv_iconst (v := nI (1)) hx hb dJ3_clear_2_26 (by decide) ?_
          refine lv_isub hx hb dJ3_clear_2_27 ?_
          refine lv_tope (y := nI (100)) (by decide) ?_
          refine z_cSi (As := [.int (nI (100))]) (rest := []) ⟨hx, hb, hml, hown, hts⟩ (mJ3_wordIndex l D dA ad H.size 100 (by omega)) (va_cwS 1 hts (lw_S q157 q158 q61 q159) rfl rfl rfl (by decide +kernel) ⟨Nat.le_of_ble_eq_true rfl, Nat.le_of_ble_eq_true rfl⟩) hC hS (fun _ h => hA _ (Nat.le_trans hS.1 h)) trivial rfl rfl hl.1 (Nat.le_of_ble_eq_true rfl) dJ3_clear_2_28 ⟨Nat.le_of_ble_eq_true rfl, Nat.le_of_ble_eq_true rfl⟩ (fun r_19 H locs hQ hF hS => ?_)
          have hP := va_P.ro hF hP
          obtain rfl : nI (100 / 64) = r_19 := hQ.symm
          refine lv_tope (y := nI (1)) (rfl) ?_
          refine lv_istore (lv' := [(4, .int (nI (1))), (3, .int (nI (0))), (0, .ref bs), (1, .int (nI (n))), (2, .int (nI (101)))]) hx hb dJ3_clear_2_31 hl (by decide) rfl (fun ls hl => ?_)
          refine lv_iload hx hb dJ3_clear_2_33 (lv_at hl 0 rfl) ?_
          refine lv_aload_n hx hb dJ3_clear_2_35 rfl (lv_at hl 2 rfl) ?_
          refine va_get (D := D) (ci := 10) (v := .int (nI (2))) (C := RJ3) (T := TJ3) (N := 3) hx hb hts in_J3 hown hK hP 0 rfl rfl 1 (by decide) (hts _ q161) (fun _ h9 => h9) rfl dJ3_clear_2_36 ?_
          refine lv_icmp_lt (tgt := 55) hx hb dJ3_clear_2_39 (by decide) (fun c_20 => ?_) (fun c_20 => ?_)
          · refine lv_ldc2 (v := (-1)) hx hb hown (hts _ q789) dJ3_clear_2_55 ?_
            refine lv_iload_n hx hb dJ3_clear_2_58 rfl (lv_at hl 3 rfl) ?_
            refine lv_lshl (v := lN (2 ^ 64 - 2 ^ (n % 64))) hx hb dJ3_clear_2_59 (bw_mo n (by omega)) ?_
            refine lv_lstore (lv' := [(5, .long (lN (2 ^ 64 - 2 ^ (n % 64)))), (4, .int (nI (1))), (3, .int (nI (0))), (0, .ref bs), (1, .int (nI (n))), (2, .int (nI (101)))]) hx hb dJ3_clear_2_60 hl (by decide) rfl (fun ls hl => ?_)
            refine lv_ldc2 (v := (-1)) hx hb hown (hts _ q789) dJ3_clear_2_62 ?_
            refine lv_iload_n hx hb dJ3_clear_2_65 rfl (lv_at hl 5 rfl) ?_
            refine lv_ineg hx hb dJ3_clear_2_66 ?_
            refine lv_lushr (v := lN (mk64 101)) hx hb dJ3_clear_2_67 (bw_ml _ (by omega)) ?_
            refine lv_lstore (lv' := [(7, .long (lN (mk64 101))), (5, .long (lN (2 ^ 64 - 2 ^ (n % 64)))), (4, .int (nI (1))), (3, .int (nI (0))), (0, .ref bs), (1, .int (nI (n))), (2, .int (nI (101)))]) hx hb dJ3_clear_2_68 hl (by decide) rfl (fun ls hl => ?_)
            refine lv_iload_n hx hb dJ3_clear_2_70 rfl (lv_at hl 3 rfl) ?_
            refine lv_iload hx hb dJ3_clear_2_71 (lv_at hl 2 rfl) ?_
            refine lv_icmp_ne (tgt := 97) hx hb dJ3_clear_2_73 (by decide) (fun c_21 => ?_) (fun c_21 => ?_)
            · refine lv_aload_n hx hb dJ3_clear_2_97 rfl (lv_at hl 4 rfl) ?_
              refine va_get (D := D) (ci := 10) (v := .ref bw) (C := RJ3) (T := TJ3) (N := 3) hx hb hts in_J3 hown hK hP 0 rfl rfl 0 (by decide) (hts _ q160) (fun _ h9 => h9) rfl dJ3_clear_2_98 ?_
              refine lv_iload_n hx hb dJ3_clear_2_101 rfl (lv_at hl 3 rfl) ?_
              refine lv_dup2_11 hx hb dJ3_clear_2_102 rfl rfl ?_
              refine va_lald hx hb hK hP 1 1 rfl rfl (vp_in_nI (by omega) (by omega)) dJ3_clear_2_103 ?_
              refine lv_topel (y := (lwd Wb) 0) (by rw [nI_clamp (by omega)]) ?_
              refine lv_lload hx hb dJ3_clear_2_104 (lv_at hl 1 rfl) ?_
              refine lv_ldc2 (v := (-1)) hx hb hown (hts _ q789) dJ3_clear_2_106 ?_
              refine lv_lxor hx hb dJ3_clear_2_109 ?_
              refine lv_land hx hb dJ3_clear_2_110 ?_
              refine va_last hx hb hK hP hD hS 1 1 rfl rfl (vp_in_nI (by omega) (by omega)) dJ3_clear_2_111 (fun H locs hP hD hS => ?_)
              rw [nI_clamp (by omega)] at hP hD
              have hP : va_P D vwCl [(bs, .inr (10, [.ref bw, .int (nI (2)), .int stk])), (bw, .inl (dA 1, 2, .inr (.inl (vp_updL (lwd Wb) 0 (((lwd Wb) 0) &&& ((lN (2 ^ 64 - 2 ^ (n % 64))) ^^^ (-1)))))))] H := hP
              have hD : va_D A [(bs, .inr (10, [.ref bw, .int (nI (2)), .int stk])), (bw, .inl (dA 1, 2, .inr (.inl (vp_updL (lwd Wb) 0 (((lwd Wb) 0) &&& ((lN (2 ^ 64 - 2 ^ (n % 64))) ^^^ (-1)))))))] := hD
              rw [show (vp_updL (lwd Wb) 0 (((lwd Wb) 0) &&& ((lN (2 ^ 64 - 2 ^ (n % 64))) ^^^ (-1))) : Nat → Int64) = lwd (Wb % 2 ^ n + 2 ^ 64 * (Wb / 2 ^ 64)) from cl_2a hn9] at hP hD
              refine lv_iload_n hx hb dJ3_clear_2_112 rfl (lv_at hl 3 rfl) ?_
              refine lv_iconst (v := nI (1)) hx hb dJ3_clear_2_113 (by decide) ?_
              refine lv_iadd hx hb dJ3_clear_2_114 ?_
              refine lv_tope (y := nI (1)) (by decide) ?_
              refine lv_istore (lv' := [(9, .int (nI (1))), (7, .long (lN (mk64 101))), (5, .long (lN (2 ^ 64 - 2 ^ (n % 64)))), (4, .int (nI (1))), (3, .int (nI (0))), (0, .ref bs), (1, .int (nI (n))), (2, .int (nI (101)))]) hx hb dJ3_clear_2_115 hl (by decide) rfl (fun ls hl => ?_)
              refine lv_iload hx hb dJ3_clear_2_117 (lv_at hl 0 rfl) ?_
              refine lv_iload hx hb dJ3_clear_2_119 (lv_at hl 3 rfl) ?_
              refine lv_icmp_ge (tgt := 138) hx hb dJ3_clear_2_121 (by decide) (fun c_22 => ?_) (fun c_22 => ?_)
              · refine lv_aload_n hx hb dJ3_clear_2_138 rfl (lv_at hl 5 rfl) ?_
                refine va_get (D := D) (ci := 10) (v := .ref bw) (C := RJ3) (T := TJ3) (N := 3) hx hb hts in_J3 hown hK hP 0 rfl rfl 0 (by decide) (hts _ q160) (fun _ h9 => h9) rfl dJ3_clear_2_139 ?_
                refine lv_iload hx hb dJ3_clear_2_142 (lv_at hl 3 rfl) ?_
                refine lv_dup2_11 hx hb dJ3_clear_2_144 rfl rfl ?_
                refine va_lald hx hb hK hP 1 1 rfl rfl (vp_in_nI (by omega) (by omega)) dJ3_clear_2_145 ?_
                refine lv_topel (y := (lwd (Wb % 2 ^ n + 2 ^ 64 * (Wb / 2 ^ 64))) 1) (by rw [nI_clamp (by omega)]) ?_
                refine lv_lload hx hb dJ3_clear_2_146 (lv_at hl 1 rfl) ?_
                refine lv_ldc2 (v := (-1)) hx hb hown (hts _ q789) dJ3_clear_2_148 ?_
                refine lv_lxor hx hb dJ3_clear_2_151 ?_
                refine lv_land hx hb dJ3_clear_2_152 ?_
                refine va_last hx hb hK hP hD hS 1 1 rfl rfl (vp_in_nI (by omega) (by omega)) dJ3_clear_2_153 (fun H locs hP hD hS => ?_)
                rw [nI_clamp (by omega)] at hP hD
                have hP : va_P D vwCl [(bs, .inr (10, [.ref bw, .int (nI (2)), .int stk])), (bw, .inl (dA 1, 2, .inr (.inl (vp_updL (lwd (Wb % 2 ^ n + 2 ^ 64 * (Wb / 2 ^ 64))) 1 (((lwd (Wb % 2 ^ n + 2 ^ 64 * (Wb / 2 ^ 64))) 1) &&& ((lN (mk64 101)) ^^^ (-1)))))))] H := hP
                have hD : va_D A [(bs, .inr (10, [.ref bw, .int (nI (2)), .int stk])), (bw, .inl (dA 1, 2, .inr (.inl (vp_updL (lwd (Wb % 2 ^ n + 2 ^ 64 * (Wb / 2 ^ 64))) 1 (((lwd (Wb % 2 ^ n + 2 ^ 64 * (Wb / 2 ^ 64))) 1) &&& ((lN (mk64 101)) ^^^ (-1)))))))] := hD
                rw [show (vp_updL (lwd (Wb % 2 ^ n + 2 ^ 64 * (Wb / 2 ^ 64))) 1 (((lwd (Wb % 2 ^ n + 2 ^ 64 * (Wb / 2 ^ 64))) 1) &&& ((lN (mk64 101)) ^^^ (-1))) : Nat → Int64) = lwd (Wb % 2 ^ n) from cl_2b hW hn9] at hP hD
                refine lv_aload_n hx hb dJ3_clear_2_154 rfl (lv_at hl 5 rfl) ?_
                refine z_cVv (As := []) (rest := []) ⟨hx, hb, hml, hown, hts⟩ (mJ3_recalculateWordsInUse l D dA ad A H.size bs bw stk 2 (Wb % 2 ^ n) (hA_up hA hS) (by omega) (by omega) (by omega) (hD.sub [0, 1] (by decide) rfl)) (cwV 0 hts (lw_V q790 q792 qs12 q61 q793) rfl rfl rfl (by decide +kernel) ⟨Nat.le_of_ble_eq_true rfl, Nat.le_of_ble_eq_true rfl⟩) hC hS (fun _ h => h) (hP.sub (ws' := [(bs, .inr (10, [.ref bw, .int (nI (2)), .int stk])), (bw, .inl (dA 1, 2, .inr (.inl (lwd (Wb % 2 ^ n)))))]) [0, 1] rfl) (va_recv hK hP (ci := 10) (q0 := 0) rfl rfl) rfl rfl hl.1 (Nat.le_of_ble_eq_true rfl) dJ3_clear_2_155 ⟨Nat.le_of_ble_eq_true rfl, Nat.le_of_ble_eq_true rfl⟩ (fun H locs hQ hF hS => ?_)
                obtain ⟨hQ, hP⟩ := hQ
                have hD := va_D.same (ws' := [(bs, .inr (10, [.ref bw, .int (nI (uOf (Wb % 2 ^ n))), .int stk])), (bw, .inl (dA 1, 2, .inr (.inl (lwd (Wb % 2 ^ n)))))]) (hD.sub (ws' := [(bs, .inr (10, [.ref bw, .int (nI (2)), .int stk])), (bw, .inl (dA 1, 2, .inr (.inl (lwd (Wb % 2 ^ n)))))]) [0, 1] (by decide) rfl) rfl
                have hP : va_P D vwCl [(bs, .inr (10, [.ref bw, .int (nI (uOf (Wb % 2 ^ n))), .int stk])), (bw, .inl (dA 1, 2, .inr (.inl (lwd (Wb % 2 ^ n)))))] H := hP
                have hD : va_D A [(bs, .inr (10, [.ref bw, .int (nI (uOf (Wb % 2 ^ n))), .int stk])), (bw, .inl (dA 1, 2, .inr (.inl (lwd (Wb % 2 ^ n)))))] := hD
                refine lv_aload_n hx hb dJ3_clear_2_158 rfl (lv_at hl 5 rfl) ?_
                refine z_cVv (As := []) (rest := []) ⟨hx, hb, hml, hown, hts⟩ (mJ3_checkInvariants l D dA ad H.size bs) (cwV 0 hts (lw_V q442 q444 qs6 q61 q445) rfl rfl rfl (by decide +kernel) ⟨Nat.le_of_ble_eq_true rfl, Nat.le_of_ble_eq_true rfl⟩) hC hS (fun _ h => hA _ (Nat.le_trans hS.1 h)) trivial (va_recv hK hP (ci := 10) (q0 := 0) rfl rfl) rfl rfl hl.1 (Nat.le_of_ble_eq_true rfl) dJ3_clear_2_159 ⟨Nat.le_of_ble_eq_true rfl, Nat.le_of_ble_eq_true rfl⟩ (fun H locs hQ hF hS => ?_)
                have hP := va_P.ro hF hP
                exact z_vret hx hb hr hS (⟨trivial, hP⟩) (by omega) (by omega) dJ3_clear_2_162
              · exact absurd c_22 (by decide)
            · exact absurd c_21 (by decide)
          · exact absurd c_20 (by decide)
        · exact absurd c_18 (by decide)
      · have c_16 := (nI_eq (by omega) (by omega)).1 c_16
        exact z_vret hx hb hr hS (⟨trivial, by rw [show Wb % 2 ^ n = Wb from by rw [show n = 101 by omega]; exact mod_all hW, hu]; exact hP⟩) (by omega) (by omega) dJ3_clear_2_10
  · rcases uOf_c Wb with ⟨hu, hu2⟩ | ⟨hu, hu2, hu3⟩ | ⟨hu, hu2⟩
    · rw [hu] at hP hD
      have hP : va_P D vwCl [(bs, .inr (10, [.ref bw, .int (nI (0)), .int stk])), (bw, .inl (dA 1, 2, .inr (.inl (lwd Wb))))] s.heap := hP
      have hD : va_D A [(bs, .inr (10, [.ref bw, .int (nI (0)), .int stk])), (bw, .inl (dA 1, 2, .inr (.inl (lwd Wb))))] := hD
      refine lv_iload_n hx hb dJ3_clear_2_0 rfl (lv_at hl 1 rfl) ?_
      refine lv_iload_n hx hb dJ3_clear_2_1 rfl (lv_at hl 2 rfl) ?_
      refine z_cSv (As := [.int (nI (n)), .int (nI (101))]) (rest := []) ⟨hx, hb, hml, hown, hts⟩ (mJ3_checkRange l D dA ad s.heap.size n 101 (by omega) (by omega)) (va_cwS 2 hts (lw_S q775 q776 q61 q777) rfl rfl rfl (by decide +kernel) ⟨Nat.le_of_ble_eq_true rfl, Nat.le_of_ble_eq_true rfl⟩) hC hS (fun _ h => hA _ (Nat.le_trans hS.1 h)) trivial rfl rfl hl.1 (Nat.le_of_ble_eq_true rfl) dJ3_clear_2_2 ⟨Nat.le_of_ble_eq_true rfl, Nat.le_of_ble_eq_true rfl⟩ (fun H locs hQ hF hS => ?_)
      have hP := va_P.ro hF hP
      refine lv_iload_n hx hb dJ3_clear_2_5 rfl (lv_at hl 1 rfl) ?_
      refine lv_iload_n hx hb dJ3_clear_2_6 rfl (lv_at hl 2 rfl) ?_
      refine lv_icmp_ne (tgt := 11) hx hb dJ3_clear_2_7 (by decide) (fun c_26 => ?_) (fun c_26 => ?_)
      · have c_26 := mt (nI_eq (by omega) (by omega)).2 c_26
        refine lv_iload_n hx hb dJ3_clear_2_11 rfl (lv_at hl 1 rfl) ?_
        refine z_cSi (As := [.int (nI (n))]) (rest := []) ⟨hx, hb, hml, hown, hts⟩ (mJ3_wordIndex l D dA ad H.size n (by omega)) (va_cwS 1 hts (lw_S q157 q158 q61 q159) rfl rfl rfl (by decide +kernel) ⟨Nat.le_of_ble_eq_true rfl, Nat.le_of_ble_eq_true rfl⟩) hC hS (fun _ h => hA _ (Nat.le_trans hS.1 h)) trivial rfl rfl hl.1 (Nat.le_of_ble_eq_true rfl) dJ3_clear_2_12 ⟨Nat.le_of_ble_eq_true rfl, Nat.le_of_ble_eq_true rfl⟩ (fun r_27 H locs hQ hF hS => ?_)
        have hP := va_P.ro hF hP
        obtain rfl : nI (n / 64) = r_27 := hQ.symm
        refine lv_tope (y := nI (1)) (by rw [show n / 64 = 1 by omega]) ?_
        refine lv_istore_n (lv' := [(3, .int (nI (1))), (0, .ref bs), (1, .int (nI (n))), (2, .int (nI (101)))]) hx hb dJ3_clear_2_15 rfl hl (by decide) rfl (fun ls hl => ?_)
        refine lv_iload_n hx hb dJ3_clear_2_16 rfl (lv_at hl 0 rfl) ?_
        refine lv_aload_n hx hb dJ3_clear_2_17 rfl (lv_at hl 1 rfl) ?_
        refine va_get (D := D) (ci := 10) (v := .int (nI (0))) (C := RJ3) (T := TJ3) (N := 3) hx hb hts in_J3 hown hK hP 0 rfl rfl 1 (by decide) (hts _ q161) (fun _ h9 => h9) rfl dJ3_clear_2_18 ?_
        refine lv_icmp_lt (tgt := 25) hx hb dJ3_clear_2_21 (by decide) (fun c_28 => ?_) (fun c_28 => ?_)
        · exact absurd c_28 (by decide)
        · exact z_vret hx hb hr hS (⟨trivial, by rw [show Wb % 2 ^ n = Wb from by rw [hu2, Nat.zero_mod], hu]; exact hP⟩) (by omega) (by omega) dJ3_clear_2_24
      · have c_26 := (nI_eq (by omega) (by omega)).1 c_26
        exact z_vret hx hb hr hS (⟨trivial, by rw [show Wb % 2 ^ n = Wb from by rw [show n = 101 by omega]; exact mod_all hW, hu]; exact hP⟩) (by omega) (by omega) dJ3_clear_2_10
    · rw [hu] at hP hD
      have hP : va_P D vwCl [(bs, .inr (10, [.ref bw, .int (nI (1)), .int stk])), (bw, .inl (dA 1, 2, .inr (.inl (lwd Wb))))] s.heap := hP
      have hD : va_D A [(bs, .inr (10, [.ref bw, .int (nI (1)), .int stk])), (bw, .inl (dA 1, 2, .inr (.inl (lwd Wb))))] := hD
      refine lv_iload_n hx hb dJ3_clear_2_0 rfl (lv_at hl 1 rfl) ?_
      refine lv_iload_n hx hb dJ3_clear_2_1 rfl (lv_at hl 2 rfl) ?_
      refine z_cSv (As := [.int (nI (n)), .int (nI (101))]) (rest := []) ⟨hx, hb, hml, hown, hts⟩ (mJ3_checkRange l D dA ad s.heap.size n 101 (by omega) (by omega)) (va_cwS 2 hts (lw_S q775 q776 q61 q777) rfl rfl rfl (by decide +kernel) ⟨Nat.le_of_ble_eq_true rfl, Nat.le_of_ble_eq_true rfl⟩) hC hS (fun _ h => hA _ (Nat.le_trans hS.1 h)) trivial rfl rfl hl.1 (Nat.le_of_ble_eq_true rfl) dJ3_clear_2_2 ⟨Nat.le_of_ble_eq_true rfl, Nat.le_of_ble_eq_true rfl⟩ (fun H locs hQ hF hS => ?_)
      have hP := va_P.ro hF hP
      refine lv_iload_n hx hb dJ3_clear_2_5 rfl (lv_at hl 1 rfl) ?_
      refine lv_iload_n hx hb dJ3_clear_2_6 rfl (lv_at hl 2 rfl) ?_
      refine lv_icmp_ne (tgt := 11) hx hb dJ3_clear_2_7 (by decide) (fun c_30 => ?_) (fun c_30 => ?_)
      · have c_30 := mt (nI_eq (by omega) (by omega)).2 c_30
        refine lv_iload_n hx hb dJ3_clear_2_11 rfl (lv_at hl 1 rfl) ?_
        refine z_cSi (As := [.int (nI (n))]) (rest := []) ⟨hx, hb, hml, hown, hts⟩ (mJ3_wordIndex l D dA ad H.size n (by omega)) (va_cwS 1 hts (lw_S q157 q158 q61 q159) rfl rfl rfl (by decide +kernel) ⟨Nat.le_of_ble_eq_true rfl, Nat.le_of_ble_eq_true rfl⟩) hC hS (fun _ h => hA _ (Nat.le_trans hS.1 h)) trivial rfl rfl hl.1 (Nat.le_of_ble_eq_true rfl) dJ3_clear_2_12 ⟨Nat.le_of_ble_eq_true rfl, Nat.le_of_ble_eq_true rfl⟩ (fun r_31 H locs hQ hF hS => ?_)
        have hP := va_P.ro hF hP
        obtain rfl : nI (n / 64) = r_31 := hQ.symm
        refine lv_tope (y := nI (1)) (by rw [show n / 64 = 1 by omega]) ?_
        refine lv_istore_n (lv' := [(3, .int (nI (1))), (0, .ref bs), (1, .int (nI (n))), (2, .int (nI (101)))]) hx hb dJ3_clear_2_15 rfl hl (by decide) rfl (fun ls hl => ?_)
        refine lv_iload_n hx hb dJ3_clear_2_16 rfl (lv_at hl 0 rfl) ?_
        refine lv_aload_n hx hb dJ3_clear_2_17 rfl (lv_at hl 1 rfl) ?_
        refine va_get (D := D) (ci := 10) (v := .int (nI (1))) (C := RJ3) (T := TJ3) (N := 3) hx hb hts in_J3 hown hK hP 0 rfl rfl 1 (by decide) (hts _ q161) (fun _ h9 => h9) rfl dJ3_clear_2_18 ?_
        refine lv_icmp_lt (tgt := 25) hx hb dJ3_clear_2_21 (by decide) (fun c_32 => ?_) (fun c_32 => ?_)
        · exact absurd c_32 (by decide)
        · exact z_vret hx hb hr hS (⟨trivial, by rw [show Wb % 2 ^ n = Wb from mod_all (Nat.lt_of_lt_of_le hu3 (Nat.pow_le_pow_right (by decide) hn9)), hu]; exact hP⟩) (by omega) (by omega) dJ3_clear_2_24
      · have c_30 := (nI_eq (by omega) (by omega)).1 c_30
        exact z_vret hx hb hr hS (⟨trivial, by rw [show Wb % 2 ^ n = Wb from by rw [show n = 101 by omega]; exact mod_all hW, hu]; exact hP⟩) (by omega) (by omega) dJ3_clear_2_10
    · rw [hu] at hP hD
      have hP : va_P D vwCl [(bs, .inr (10, [.ref bw, .int (nI (2)), .int stk])), (bw, .inl (dA 1, 2, .inr (.inl (lwd Wb))))] s.heap := hP
      have hD : va_D A [(bs, .inr (10, [.ref bw, .int (nI (2)), .int stk])), (bw, .inl (dA 1, 2, .inr (.inl (lwd Wb))))] := hD
      refine lv_iload_n hx hb dJ3_clear_2_0 rfl (lv_at hl 1 rfl) ?_
      refine lv_iload_n hx hb dJ3_clear_2_1 rfl (lv_at hl 2 rfl) ?_
      refine z_cSv (As := [.int (nI (n)), .int (nI (101))]) (rest := []) ⟨hx, hb, hml, hown, hts⟩ (mJ3_checkRange l D dA ad s.heap.size n 101 (by omega) (by omega)) (va_cwS 2 hts (lw_S q775 q776 q61 q777) rfl rfl rfl (by decide +kernel) ⟨Nat.le_of_ble_eq_true rfl, Nat.le_of_ble_eq_true rfl⟩) hC hS (fun _ h => hA _ (Nat.le_trans hS.1 h)) trivial rfl rfl hl.1 (Nat.le_of_ble_eq_true rfl) dJ3_clear_2_2 ⟨Nat.le_of_ble_eq_true rfl, Nat.le_of_ble_eq_true rfl⟩ (fun H locs hQ hF hS => ?_)
      have hP := va_P.ro hF hP
      refine lv_iload_n hx hb dJ3_clear_2_5 rfl (lv_at hl 1 rfl) ?_
      refine lv_iload_n hx hb dJ3_clear_2_6 rfl (lv_at hl 2 rfl) ?_
      refine lv_icmp_ne (tgt := 11) hx hb dJ3_clear_2_7 (by decide) (fun c_34 => ?_) (fun c_34 => ?_)
      · have c_34 := mt (nI_eq (by omega) (by omega)).2 c_34
        refine lv_iload_n hx hb dJ3_clear_2_11 rfl (lv_at hl 1 rfl) ?_
        refine z_cSi (As := [.int (nI (n))]) (rest := []) ⟨hx, hb, hml, hown, hts⟩ (mJ3_wordIndex l D dA ad H.size n (by omega)) (va_cwS 1 hts (lw_S q157 q158 q61 q159) rfl rfl rfl (by decide +kernel) ⟨Nat.le_of_ble_eq_true rfl, Nat.le_of_ble_eq_true rfl⟩) hC hS (fun _ h => hA _ (Nat.le_trans hS.1 h)) trivial rfl rfl hl.1 (Nat.le_of_ble_eq_true rfl) dJ3_clear_2_12 ⟨Nat.le_of_ble_eq_true rfl, Nat.le_of_ble_eq_true rfl⟩ (fun r_35 H locs hQ hF hS => ?_)
        have hP := va_P.ro hF hP
        obtain rfl : nI (n / 64) = r_35 := hQ.symm
        refine lv_tope (y := nI (1)) (by rw [show n / 64 = 1 by omega]) ?_
        refine lv_istore_n (lv' := [(3, .int (nI (1))), (0, .ref bs), (1, .int (nI (n))), (2, .int (nI (101)))]) hx hb dJ3_clear_2_15 rfl hl (by decide) rfl (fun ls hl => ?_)
        refine lv_iload_n hx hb dJ3_clear_2_16 rfl (lv_at hl 0 rfl) ?_
        refine lv_aload_n hx hb dJ3_clear_2_17 rfl (lv_at hl 1 rfl) ?_
        refine va_get (D := D) (ci := 10) (v := .int (nI (2))) (C := RJ3) (T := TJ3) (N := 3) hx hb hts in_J3 hown hK hP 0 rfl rfl 1 (by decide) (hts _ q161) (fun _ h9 => h9) rfl dJ3_clear_2_18 ?_
        refine lv_icmp_lt (tgt := 25) hx hb dJ3_clear_2_21 (by decide) (fun c_36 => ?_) (fun c_36 => ?_)
        · refine lv_iload_n hx hb dJ3_clear_2_25 rfl (lv_at hl 3 rfl) ?_
          refine lv_iconst (v := nI (1)) hx hb dJ3_clear_2_26 (by decide) ?_
          refine lv_isub hx hb dJ3_clear_2_27 ?_
          refine lv_tope (y := nI (100)) (by decide) ?_
          refine z_cSi (As := [.int (nI (100))]) (rest := []) ⟨hx, hb, hml, hown, hts⟩ (mJ3_wordIndex l D dA ad H.size 100 (by omega)) (va_cwS 1 hts (lw_S q157 q158 q61 q159) rfl rfl rfl (by decide +kernel) ⟨Nat.le_of_ble_eq_true rfl, Nat.le_of_ble_eq_true rfl⟩) hC hS (fun _ h => hA _ (Nat.le_trans hS.1 h)) trivial rfl rfl hl.1 (Nat.le_of_ble_eq_true rfl) dJ3_clear_2_28 ⟨Nat.le_of_ble_eq_true rfl, Nat.le_of_ble_eq_true rfl⟩ (fun r_37 H locs hQ hF hS => ?_)
          have hP := va_P.ro hF hP
          obtain rfl : nI (100 / 64) = r_37 := hQ.symm
          refine lv_tope (y := nI (1)) (rfl) ?_
          refine lv_istore (lv' := [(4, .int (nI (1))), (3, .int (nI (1))), (0, .ref bs), (1, .int (nI (n))), (2, .int (nI (101)))]) hx hb dJ3_clear_2_31 hl (by decide) rfl (fun ls hl => ?_)
          refine lv_iload hx hb dJ3_clear_2_33 (lv_at hl 0 rfl) ?_
          refine lv_aload_n hx hb dJ3_clear_2_35 rfl (lv_at hl 2 rfl) ?_
          refine va_get (D := D) (ci := 10) (v := .int (nI (2))) (C := RJ3) (T := TJ3) (N := 3) hx hb hts in_J3 hown hK hP 0 rfl rfl 1 (by decide) (hts _ q161) (fun _ h9 => h9) rfl dJ3_clear_2_36 ?_
          refine lv_icmp_lt (tgt := 55) hx hb dJ3_clear_2_39 (by decide) (fun c_38 => ?_) (fun c_38 => ?_)
          · refine lv_ldc2 (v := (-1)) hx hb hown (hts _ q789) dJ3_clear_2_55 ?_
            refine lv_iload_n hx hb dJ3_clear_2_58 rfl (lv_at hl 3 rfl) ?_
            refine lv_lshl (v := lN (2 ^ 64 - 2 ^ (n % 64))) hx hb dJ3_clear_2_59 (bw_mo n (by omega)) ?_
            refine lv_lstore (lv' := [(5, .long (lN (2 ^ 64 - 2 ^ (n % 64)))), (4, .int (nI (1))), (3, .int (nI (1))), (0, .ref bs), (1, .int (nI (n))), (2, .int (nI (101)))]) hx hb dJ3_clear_2_60 hl (by decide) rfl (fun ls hl => ?_)
            refine lv_ldc2 (v := (-1)) hx hb hown (hts _ q789) dJ3_clear_2_62 ?_
            refine lv_iload_n hx hb dJ3_clear_2_65 rfl (lv_at hl 5 rfl) ?_
            refine lv_ineg hx hb dJ3_clear_2_66 ?_
            refine lv_lushr (v := lN (mk64 101)) hx hb dJ3_clear_2_67 (bw_ml _ (by omega)) ?_
            refine lv_lstore (lv' := [(7, .long (lN (mk64 101))), (5, .long (lN (2 ^ 64 - 2 ^ (n % 64)))), (4, .int (nI (1))), (3, .int (nI (1))), (0, .ref bs), (1, .int (nI (n))), (2, .int (nI (101)))]) hx hb dJ3_clear_2_68 hl (by decide) rfl (fun ls hl => ?_)
            refine lv_iload_n hx hb dJ3_clear_2_70 rfl (lv_at hl 3 rfl) ?_
            refine lv_iload hx hb dJ3_clear_2_71 (lv_at hl 2 rfl) ?_
            refine lv_icmp_ne (tgt := 97) hx hb dJ3_clear_2_73 (by decide) (fun c_39 => ?_) (fun c_39 => ?_)
            · exact absurd c_39 (by decide)
            · refine lv_aload_n hx hb dJ3_clear_2_76 rfl (lv_at hl 4 rfl) ?_
              refine va_get (D := D) (ci := 10) (v := .ref bw) (C := RJ3) (T := TJ3) (N := 3) hx hb hts in_J3 hown hK hP 0 rfl rfl 0 (by decide) (hts _ q160) (fun _ h9 => h9) rfl dJ3_clear_2_77 ?_
              refine lv_iload_n hx hb dJ3_clear_2_80 rfl (lv_at hl 3 rfl) ?_
              refine lv_dup2_11 hx hb dJ3_clear_2_81 rfl rfl ?_
              refine va_lald hx hb hK hP 1 1 rfl rfl (vp_in_nI (by omega) (by omega)) dJ3_clear_2_82 ?_
              refine lv_topel (y := (lwd Wb) 1) (by rw [nI_clamp (by omega)]) ?_
              refine lv_lload hx hb dJ3_clear_2_83 (lv_at hl 1 rfl) ?_
              refine lv_lload hx hb dJ3_clear_2_85 (lv_at hl 0 rfl) ?_
              refine lv_land hx hb dJ3_clear_2_87 ?_
              refine lv_ldc2 (v := (-1)) hx hb hown (hts _ q789) dJ3_clear_2_88 ?_
              refine lv_lxor hx hb dJ3_clear_2_91 ?_
              refine lv_land hx hb dJ3_clear_2_92 ?_
              refine va_last hx hb hK hP hD hS 1 1 rfl rfl (vp_in_nI (by omega) (by omega)) dJ3_clear_2_93 (fun H locs hP hD hS => ?_)
              rw [nI_clamp (by omega)] at hP hD
              have hP : va_P D vwCl [(bs, .inr (10, [.ref bw, .int (nI (2)), .int stk])), (bw, .inl (dA 1, 2, .inr (.inl (vp_updL (lwd Wb) 1 (((lwd Wb) 1) &&& (((lN (2 ^ 64 - 2 ^ (n % 64))) &&& (lN (mk64 101))) ^^^ (-1)))))))] H := hP
              have hD : va_D A [(bs, .inr (10, [.ref bw, .int (nI (2)), .int stk])), (bw, .inl (dA 1, 2, .inr (.inl (vp_updL (lwd Wb) 1 (((lwd Wb) 1) &&& (((lN (2 ^ 64 - 2 ^ (n % 64))) &&& (lN (mk64 101))) ^^^ (-1)))))))] := hD
              rw [show (vp_updL (lwd Wb) 1 (((lwd Wb) 1) &&& (((lN (2 ^ 64 - 2 ^ (n % 64))) &&& (lN (mk64 101))) ^^^ (-1))) : Nat → Int64) = lwd (Wb % 2 ^ n) from cl_3 hW hn9 h2] at hP hD
              refine lv_goto (tgt := 154) hx hb dJ3_clear_2_94 (by decide) ?_
              refine lv_aload_n hx hb dJ3_clear_2_154 rfl (lv_at hl 4 rfl) ?_
              refine z_cVv (As := []) (rest := []) ⟨hx, hb, hml, hown, hts⟩ (mJ3_recalculateWordsInUse l D dA ad A H.size bs bw stk 2 (Wb % 2 ^ n) (hA_up hA hS) (by omega) (by omega) (by omega) (hD.sub [0, 1] (by decide) rfl)) (cwV 0 hts (lw_V q790 q792 qs12 q61 q793) rfl rfl rfl (by decide +kernel) ⟨Nat.le_of_ble_eq_true rfl, Nat.le_of_ble_eq_true rfl⟩) hC hS (fun _ h => h) (hP.sub (ws' := [(bs, .inr (10, [.ref bw, .int (nI (2)), .int stk])), (bw, .inl (dA 1, 2, .inr (.inl (lwd (Wb % 2 ^ n)))))]) [0, 1] rfl) (va_recv hK hP (ci := 10) (q0 := 0) rfl rfl) rfl rfl hl.1 (Nat.le_of_ble_eq_true rfl) dJ3_clear_2_155 ⟨Nat.le_of_ble_eq_true rfl, Nat.le_of_ble_eq_true rfl⟩ (fun H locs hQ hF hS => ?_)
              obtain ⟨hQ, hP⟩ := hQ
              have hD := va_D.same (ws' := [(bs, .inr (10, [.ref bw, .int (nI (uOf (Wb % 2 ^ n))), .int stk])), (bw, .inl (dA 1, 2, .inr (.inl (lwd (Wb % 2 ^ n)))))]) (hD.sub (ws' := [(bs, .inr (10, [.ref bw, .int (nI (2)), .int stk])), (bw, .inl (dA 1, 2, .inr (.inl (lwd (Wb % 2 ^ n)))))]) [0, 1] (by decide) rfl) rfl
              have hP : va_P D vwCl [(bs, .inr (10, [.ref bw, .int (nI (uOf (Wb % 2 ^ n))), .int stk])), (bw, .inl (dA 1, 2, .inr (.inl (lwd (Wb % 2 ^ n)))))] H := hP
              have hD : va_D A [(bs, .inr (10, [.ref bw, .int (nI (uOf (Wb % 2 ^ n))), .int stk])), (bw, .inl (dA 1, 2, .inr (.inl (lwd (Wb % 2 ^ n)))))] := hD
              refine lv_aload_n hx hb dJ3_clear_2_158 rfl (lv_at hl 4 rfl) ?_
              refine z_cVv (As := []) (rest := []) ⟨hx, hb, hml, hown, hts⟩ (mJ3_checkInvariants l D dA ad H.size bs) (cwV 0 hts (lw_V q442 q444 qs6 q61 q445) rfl rfl rfl (by decide +kernel) ⟨Nat.le_of_ble_eq_true rfl, Nat.le_of_ble_eq_true rfl⟩) hC hS (fun _ h => hA _ (Nat.le_trans hS.1 h)) trivial (va_recv hK hP (ci := 10) (q0 := 0) rfl rfl) rfl rfl hl.1 (Nat.le_of_ble_eq_true rfl) dJ3_clear_2_159 ⟨Nat.le_of_ble_eq_true rfl, Nat.le_of_ble_eq_true rfl⟩ (fun H locs hQ hF hS => ?_)
              have hP := va_P.ro hF hP
              exact z_vret hx hb hr hS (⟨trivial, hP⟩) (by omega) (by omega) dJ3_clear_2_162
          · exact absurd c_38 (by decide)
        · exact absurd c_36 (by decide)
      · have c_34 := (nI_eq (by omega) (by omega)).1 c_34
        exact z_vret hx hb hr hS (⟨trivial, by rw [show Wb % 2 ^ n = Wb from by rw [show n = 101 by omega]; exact mod_all hW, hu]; exact hP⟩) (by omega) (by omega) dJ3_clear_2_10
