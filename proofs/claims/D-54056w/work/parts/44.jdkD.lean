set_option maxHeartbeats 4000000 in
set_option maxRecDepth 100000 in
theorem mJ4_inc (l : Launch) (D : va_G) (dA : Nat → ClassId) (ad : Nat → Nat) (sz : Nat) (i : Nat) (h1 : i < 17) : Met l yJ4_inc (ws_ yJ4_inc cJ4_inc 2 (some .int)) ({ frames := 0, cells := 0, slots := 0, locals := 0 }) (va_Pc [.int (nI (i)), .int (nI (17))] (zP D dA ad (fun q => sz ≤ q) sz (fun H => True))) (zQi (fun rz H => rz = nI (i17 i)) (fun q => sz ≤ q)) (0) (0) (fun q => sz ≤ q) := by
  refine Met.ofW (cc := cJ4_inc) (maxL := 2) (ret := (some .int)) (by decide) rfl ?_
  intro p e s m args below meth c s₁ B hml hv
  obtain ⟨rfl, hsz, hC, hP⟩ := hv
  have hx := B.exec
  have hb := B.bytes
  have hr := B.returns
  have hts := atoms_spec (ws := ws_ yJ4_inc cJ4_inc 2 (some .int)) B.pre
  have hts : ∀ w ∈ lw_all, w.before _ s = true := fun w h => hts w (List.mem_cons_of_mem _ h)
  have hown : s.vm.findClass RJ4 = some m.cls := findClass_of_methodNamed B.named
  have hlocks := B.notSynchronized
  subst hsz
  have hK := hC.K
  have hA : ∀ q : Nat, s.heap.size ≤ q → s.heap.size ≤ q := fun _ h => h
  have hS : va_S (fun q => s.heap.size ≤ q) s.heap s.heap [] := va_S.rf
  have hP : va_P D vwCl [] s.heap := va_Pnil
  have hl := lv_entry ([.int (nI (i)), .int (nI (17))]) (n := 2) (Nat.le_of_ble_eq_true rfl)
  rw [lg_entry_eq]
  generalize (lg_sl ([.int (nI (i)), .int (nI (17))]) ++ List.replicate (2 - (lg_sl ([.int (nI (i)), .int (nI (17))])).length) Slot.unset).toArray = ls at hl ⊢
  have hl : lv_has ls 2 [(0, .int (nI (i))), (1, .int (nI (17)))] := hl
  refine lv_iinc (v := nI (i + 1)) (lv' := [(0, .int (nI (i + 1))), (1, .int (nI (17)))]) hx hb dJ4_inc_0 hl (k := 0) rfl (nI_add _ _) (by decide) rfl (fun ls hl => ?_)
  refine lv_iload_n hx hb dJ4_inc_3 rfl (lv_at hl 0 rfl) ?_
  refine lv_iload_n hx hb dJ4_inc_4 rfl (lv_at hl 1 rfl) ?_
  refine lv_icmp_lt (tgt := 10) hx hb dJ4_inc_5 (by decide) (fun c_1 => ?_) (fun c_1 => ?_)
  · have c_1 := (nI_ltI (by omega) (by omega)).1 c_1
    refine lv_iload_n hx hb dJ4_inc_10 rfl (lv_at hl 0 rfl) ?_
    exact z_iret (v := nI (i + 1)) hx hb hr hS (by unfold i17; rw [if_pos (by omega)]) (by omega) (by omega) dJ4_inc_11
  · have c_1 := mt (nI_ltI (by omega) (by omega)).2 c_1
    refine lv_iconst (v := nI (0)) hx hb dJ4_inc_8 (by decide) ?_
    refine lv_istore_n (lv' := [(0, .int (nI (0))), (1, .int (nI (17)))]) hx hb dJ4_inc_9 rfl hl (by decide) rfl (fun ls hl => ?_)
    refine lv_iload_n hx hb dJ4_inc_10 rfl (lv_at hl 0 rfl) ?_
    exact z_iret (v := nI (0)) hx hb hr hS (by unfold i17; rw [if_neg (by omega)]) (by omega) (by omega) dJ4_inc_11

set_option maxHeartbeats 4000000 in
set_option maxRecDepth 100000 in
theorem mJ4_dec (l : Launch) (D : va_G) (dA : Nat → ClassId) (ad : Nat → Nat) (sz : Nat) (i : Nat) (h1 : i < 17) : Met l yJ4_dec (ws_ yJ4_dec cJ4_dec 2 (some .int)) ({ frames := 0, cells := 0, slots := 0, locals := 0 }) (va_Pc [.int (nI (i)), .int (nI (17))] (zP D dA ad (fun q => sz ≤ q) sz (fun H => True))) (zQi (fun rz H => rz = nI (d17 i)) (fun q => sz ≤ q)) (0) (0) (fun q => sz ≤ q) := by
  refine Met.ofW (cc := cJ4_dec) (maxL := 2) (ret := (some .int)) (by decide) rfl ?_
  intro p e s m args below meth c s₁ B hml hv
  obtain ⟨rfl, hsz, hC, hP⟩ := hv
  have hx := B.exec
  have hb := B.bytes
  have hr := B.returns
  have hts := atoms_spec (ws := ws_ yJ4_dec cJ4_dec 2 (some .int)) B.pre
  have hts : ∀ w ∈ lw_all, w.before _ s = true := fun w h => hts w (List.mem_cons_of_mem _ h)
  have hown : s.vm.findClass RJ4 = some m.cls := findClass_of_methodNamed B.named
  have hlocks := B.notSynchronized
  subst hsz
  have hK := hC.K
  have hA : ∀ q : Nat, s.heap.size ≤ q → s.heap.size ≤ q := fun _ h => h
  have hS : va_S (fun q => s.heap.size ≤ q) s.heap s.heap [] := va_S.rf
  have hP : va_P D vwCl [] s.heap := va_Pnil
  have hl := lv_entry ([.int (nI (i)), .int (nI (17))]) (n := 2) (Nat.le_of_ble_eq_true rfl)
  rw [lg_entry_eq]
  generalize (lg_sl ([.int (nI (i)), .int (nI (17))]) ++ List.replicate (2 - (lg_sl ([.int (nI (i)), .int (nI (17))])).length) Slot.unset).toArray = ls at hl ⊢
  have hl : lv_has ls 2 [(0, .int (nI (i))), (1, .int (nI (17)))] := hl
  rcases Nat.eq_zero_or_pos i with hi | hi
  · subst hi
    refine lv_iinc (v := (-1)) (lv' := [(0, .int (-1)), (1, .int (nI (17)))]) hx hb dJ4_dec_0 hl (k := 0) rfl (by decide) (by decide) rfl (fun ls hl => ?_)
    refine lv_iload_n hx hb dJ4_dec_3 rfl (lv_at hl 0 rfl) ?_
    refine lv_if_ge (tgt := 11) hx hb dJ4_dec_4 (by decide) (fun c_1 => ?_) (fun c_1 => ?_)
    · exact absurd c_1 (by decide)
    · refine lv_iload_n hx hb dJ4_dec_7 rfl (lv_at hl 1 rfl) ?_
      refine lv_iconst (v := nI (1)) hx hb dJ4_dec_8 (by decide) ?_
      refine lv_isub hx hb dJ4_dec_9 ?_
      refine lv_tope (y := nI (16)) (by decide) ?_
      refine lv_istore_n (lv' := [(0, .int (nI (16))), (1, .int (nI (17)))]) hx hb dJ4_dec_10 rfl hl (by decide) rfl (fun ls hl => ?_)
      refine lv_iload_n hx hb dJ4_dec_11 rfl (lv_at hl 0 rfl) ?_
      exact z_iret (v := nI (16)) hx hb hr hS (by unfold d17; first | rw [if_pos rfl] | rw [if_neg (by omega)]) (by omega) (by omega) dJ4_dec_12
  · refine lv_iinc (v := nI (i - 1)) (lv' := [(0, .int (nI (i - 1))), (1, .int (nI (17)))]) hx hb dJ4_dec_0 hl (k := 0) rfl (nI_sub1 (k := 1) (by omega)) (by decide) rfl (fun ls hl => ?_)
    refine lv_iload_n hx hb dJ4_dec_3 rfl (lv_at hl 0 rfl) ?_
    refine lv_if_ge (tgt := 11) hx hb dJ4_dec_4 (by decide) (fun c_2 => ?_) (fun c_2 => ?_)
    · refine lv_iload_n hx hb dJ4_dec_11 rfl (lv_at hl 0 rfl) ?_
      exact z_iret (v := nI (i - 1)) hx hb hr hS (by unfold d17; first | rw [if_pos rfl] | rw [if_neg (by omega)]) (by omega) (by omega) dJ4_dec_12
    · exact absurd (nI_pos' (by omega)) c_2

set_option maxHeartbeats 4000000 in
set_option maxRecDepth 100000 in
theorem mJ4_sub (l : Launch) (D : va_G) (dA : Nat → ClassId) (ad : Nat → Nat) (sz : Nat) (i : Nat) (j : Nat) (h1 : i < 17) (h2 : j < 17) : Met l yJ4_sub (ws_ yJ4_sub cJ4_sub 3 (some .int)) ({ frames := 0, cells := 0, slots := 0, locals := 0 }) (va_Pc [.int (nI (i)), .int (nI (j)), .int (nI (17))] (zP D dA ad (fun q => sz ≤ q) sz (fun H => True))) (zQi (fun rz H => rz = nI (s17 i j)) (fun q => sz ≤ q)) (0) (0) (fun q => sz ≤ q) := by
  refine Met.ofW (cc := cJ4_sub) (maxL := 3) (ret := (some .int)) (by decide) rfl ?_
  intro p e s m args below meth c s₁ B hml hv
  obtain ⟨rfl, hsz, hC, hP⟩ := hv
  have hx := B.exec
  have hb := B.bytes
  have hr := B.returns
  have hts := atoms_spec (ws := ws_ yJ4_sub cJ4_sub 3 (some .int)) B.pre
  have hts : ∀ w ∈ lw_all, w.before _ s = true := fun w h => hts w (List.mem_cons_of_mem _ h)
  have hown : s.vm.findClass RJ4 = some m.cls := findClass_of_methodNamed B.named
  have hlocks := B.notSynchronized
  subst hsz
  have hK := hC.K
  have hA : ∀ q : Nat, s.heap.size ≤ q → s.heap.size ≤ q := fun _ h => h
  have hS : va_S (fun q => s.heap.size ≤ q) s.heap s.heap [] := va_S.rf
  have hP : va_P D vwCl [] s.heap := va_Pnil
  have hl := lv_entry ([.int (nI (i)), .int (nI (j)), .int (nI (17))]) (n := 3) (Nat.le_of_ble_eq_true rfl)
  rw [lg_entry_eq]
  generalize (lg_sl ([.int (nI (i)), .int (nI (j)), .int (nI (17))]) ++ List.replicate (3 - (lg_sl ([.int (nI (i)), .int (nI (j)), .int (nI (17))])).length) Slot.unset).toArray = ls at hl ⊢
  have hl : lv_has ls 3 [(0, .int (nI (i))), (1, .int (nI (j))), (2, .int (nI (17)))] := hl
  rcases Nat.lt_or_ge i j with hij | hij
  · refine lv_iload_n hx hb dJ4_sub_0 rfl (lv_at hl 0 rfl) ?_
    refine lv_iload_n hx hb dJ4_sub_1 rfl (lv_at hl 1 rfl) ?_
    refine lv_isub hx hb dJ4_sub_2 ?_
    refine lv_dup hx hb dJ4_sub_3 rfl ?_
    refine lv_istore_n (lv' := [(0, .int ((nI (i)) - (nI (j)))), (1, .int (nI (j))), (2, .int (nI (17)))]) hx hb dJ4_sub_4 rfl hl (by decide) rfl (fun ls hl => ?_)
    refine lv_if_ge (tgt := 12) hx hb dJ4_sub_5 (by decide) (fun c_1 => ?_) (fun c_1 => ?_)
    · exact absurd (pk_sneg (by omega) hij) (Int32.not_lt.2 c_1)
    · refine lv_iload_n hx hb dJ4_sub_8 rfl (lv_at hl 0 rfl) ?_
      refine lv_iload_n hx hb dJ4_sub_9 rfl (lv_at hl 2 rfl) ?_
      refine lv_iadd hx hb dJ4_sub_10 ?_
      refine lv_tope (y := nI (i + 17 - j)) (by rw [show i + 17 - j = 17 - (j - i) by omega, ← pk_sub (show j - i ≤ 17 by omega), ← pk_sub (Nat.le_of_lt hij)]; apply Int32.toBitVec_inj.1; simp [nI]; bv_omega) ?_
      refine lv_istore_n (lv' := [(0, .int (nI (i + 17 - j))), (1, .int (nI (j))), (2, .int (nI (17)))]) hx hb dJ4_sub_11 rfl hl (by decide) rfl (fun ls hl => ?_)
      refine lv_iload_n hx hb dJ4_sub_12 rfl (lv_at hl 0 rfl) ?_
      exact z_iret (v := nI (i + 17 - j)) hx hb hr hS (by unfold s17; first | rw [if_pos (by omega)] | rw [if_neg (by omega)]) (by omega) (by omega) dJ4_sub_13
  · refine lv_iload_n hx hb dJ4_sub_0 rfl (lv_at hl 0 rfl) ?_
    refine lv_iload_n hx hb dJ4_sub_1 rfl (lv_at hl 1 rfl) ?_
    refine lv_isub hx hb dJ4_sub_2 ?_
    refine lv_tope (y := nI (i - j)) (pk_sub (by omega)) ?_
    refine lv_dup hx hb dJ4_sub_3 rfl ?_
    refine lv_istore_n (lv' := [(0, .int (nI (i - j))), (1, .int (nI (j))), (2, .int (nI (17)))]) hx hb dJ4_sub_4 rfl hl (by decide) rfl (fun ls hl => ?_)
    refine lv_if_ge (tgt := 12) hx hb dJ4_sub_5 (by decide) (fun c_2 => ?_) (fun c_2 => ?_)
    · refine lv_iload_n hx hb dJ4_sub_12 rfl (lv_at hl 0 rfl) ?_
      exact z_iret (v := nI (i - j)) hx hb hr hS (by unfold s17; first | rw [if_pos (by omega)] | rw [if_neg (by omega)]) (by omega) (by omega) dJ4_sub_13
    · exact absurd (nI_pos' (by omega)) c_2

set_option maxHeartbeats 4000000 in
set_option maxRecDepth 100000 in
theorem mJ4_size (l : Launch) (D : va_G) (dA : Nat → ClassId) (ad : Nat → Nat) (sz : Nat) (dq : Nat) (da : Nat) (hd : Nat) (tl : Nat) (g : Nat → Option Nat) (h1 : hd < 17) (h2 : tl < 17) : Met l yJ4_size (ws_ yJ4_size cJ4_size 1 (some .int)) ({ frames := 1, cells := 0, slots := 0, locals := 30 }) (va_Pc [.ref dq] (zP D dA ad (fun q => sz ≤ q) sz (fun H => va_P D vwCl [(dq, .inr (11, [.ref da, .int (nI (hd)), .int (nI (tl))])), (da, .inl (dA 3, 17, .inr (.inr (.inr (.inr g)))))] H))) (zQi (fun rz H => rz = nI (s17 tl hd)) (fun q => sz ≤ q)) (0) (0) (fun q => sz ≤ q) := by
  refine Met.ofW (cc := cJ4_size) (maxL := 1) (ret := (some .int)) (by decide) rfl ?_
  intro p e s m args below meth c s₁ B hml hv
  obtain ⟨rfl, hsz, hC, hP⟩ := hv
  have hx := B.exec
  have hb := B.bytes
  have hr := B.returns
  have hts := atoms_spec (ws := ws_ yJ4_size cJ4_size 1 (some .int)) B.pre
  have hts : ∀ w ∈ lw_all, w.before _ s = true := fun w h => hts w (List.mem_cons_of_mem _ h)
  have hown : s.vm.findClass RJ4 = some m.cls := findClass_of_methodNamed B.named
  have hlocks := B.notSynchronized
  subst hsz
  have hK := hC.K
  have hA : ∀ q : Nat, s.heap.size ≤ q → s.heap.size ≤ q := fun _ h => h
  have hS : va_S (fun q => s.heap.size ≤ q) s.heap s.heap [] := va_S.rf
  have hP : va_P D vwCl [(dq, .inr (11, [.ref da, .int (nI (hd)), .int (nI (tl))])), (da, .inl (dA 3, 17, .inr (.inr (.inr (.inr g)))))] s.heap := hP
  have hl := lv_entry ([.ref dq]) (n := 1) (Nat.le_of_ble_eq_true rfl)
  rw [lg_entry_eq]
  generalize (lg_sl ([.ref dq]) ++ List.replicate (1 - (lg_sl ([.ref dq])).length) Slot.unset).toArray = ls at hl ⊢
  have hl : lv_has ls 1 [(0, .ref dq)] := hl
  refine lv_aload_n hx hb dJ4_size_0 rfl (lv_at hl 0 rfl) ?_
  refine va_get (D := D) (ci := 11) (v := .int (nI (tl))) (C := RJ4) (T := TJ4) (N := 3) hx hb hts in_J4 hown hK hP 0 rfl rfl 2 (by decide) (hts _ q243) (fun _ h9 => h9) rfl dJ4_size_1 ?_
  refine lv_aload_n hx hb dJ4_size_4 rfl (lv_at hl 0 rfl) ?_
  refine va_get (D := D) (ci := 11) (v := .int (nI (hd))) (C := RJ4) (T := TJ4) (N := 3) hx hb hts in_J4 hown hK hP 0 rfl rfl 1 (by decide) (hts _ q242) (fun _ h9 => h9) rfl dJ4_size_5 ?_
  refine lv_aload_n hx hb dJ4_size_8 rfl (lv_at hl 0 rfl) ?_
  refine va_get (D := D) (ci := 11) (v := .ref da) (C := RJ4) (T := TJ4) (N := 3) hx hb hts in_J4 hown hK hP 0 rfl rfl 0 (by decide) (hts _ q241) (fun _ h9 => h9) rfl dJ4_size_9 ?_
  refine va_alen (v := nI (17)) hx hb hK hP 1 3 rfl rfl rfl dJ4_size_12 ?_
  refine z_cSi (As := [.int (nI (tl)), .int (nI (hd)), .int (nI (17))]) (rest := []) ⟨hx, hb, hml, hown, hts⟩ (mJ4_sub l D dA ad s.heap.size tl hd (by omega) (by omega)) (va_cwS 3 hts (lw_S q856 q857 q62 q858) rfl rfl rfl (by decide +kernel) ⟨Nat.le_of_ble_eq_true rfl, Nat.le_of_ble_eq_true rfl⟩) hC hS (fun _ h => hA _ (Nat.le_trans hS.1 h)) trivial rfl rfl hl.1 (Nat.le_of_ble_eq_true rfl) dJ4_size_13 ⟨Nat.le_of_ble_eq_true rfl, Nat.le_of_ble_eq_true rfl⟩ (fun r_1 H locs hQ hF hS => ?_)
  have hP := va_P.ro hF hP
  obtain rfl : nI (s17 tl hd) = r_1 := hQ.symm
  exact z_iret (v := nI (s17 tl hd)) hx hb hr hS (rfl) (by omega) (by omega) dJ4_size_16

set_option maxHeartbeats 4000000 in
set_option maxRecDepth 100000 in
theorem mJ4_isEmpty (l : Launch) (D : va_G) (dA : Nat → ClassId) (ad : Nat → Nat) (sz : Nat) (dq : Nat) (da : Nat) (hd : Nat) (tl : Nat) (g : Nat → Option Nat) (h1 : hd < 17) (h2 : tl < 17) : Met l yJ4_isEmpty (ws_ yJ4_isEmpty cJ4_isEmpty 1 (some .boolean)) ({ frames := 0, cells := 0, slots := 0, locals := 0 }) (va_Pc [.ref dq] (zP D dA ad (fun q => sz ≤ q) sz (fun H => va_P D vwCl [(dq, .inr (11, [.ref da, .int (nI (hd)), .int (nI (tl))])), (da, .inl (dA 3, 17, .inr (.inr (.inr (.inr g)))))] H))) (zQi (fun rz H => rz = bI (hd = tl)) (fun q => sz ≤ q)) (0) (0) (fun q => sz ≤ q) := by
  refine Met.ofW (cc := cJ4_isEmpty) (maxL := 1) (ret := (some .boolean)) (by decide) rfl ?_
  intro p e s m args below meth c s₁ B hml hv
  obtain ⟨rfl, hsz, hC, hP⟩ := hv
  have hx := B.exec
  have hb := B.bytes
  have hr := B.returns
  have hts := atoms_spec (ws := ws_ yJ4_isEmpty cJ4_isEmpty 1 (some .boolean)) B.pre
  have hts : ∀ w ∈ lw_all, w.before _ s = true := fun w h => hts w (List.mem_cons_of_mem _ h)
  have hown : s.vm.findClass RJ4 = some m.cls := findClass_of_methodNamed B.named
  have hlocks := B.notSynchronized
  subst hsz
  have hK := hC.K
  have hA : ∀ q : Nat, s.heap.size ≤ q → s.heap.size ≤ q := fun _ h => h
  have hS : va_S (fun q => s.heap.size ≤ q) s.heap s.heap [] := va_S.rf
  have hP : va_P D vwCl [(dq, .inr (11, [.ref da, .int (nI (hd)), .int (nI (tl))])), (da, .inl (dA 3, 17, .inr (.inr (.inr (.inr g)))))] s.heap := hP
  have hl := lv_entry ([.ref dq]) (n := 1) (Nat.le_of_ble_eq_true rfl)
  rw [lg_entry_eq]
  generalize (lg_sl ([.ref dq]) ++ List.replicate (1 - (lg_sl ([.ref dq])).length) Slot.unset).toArray = ls at hl ⊢
  have hl : lv_has ls 1 [(0, .ref dq)] := hl
  refine lv_aload_n hx hb dJ4_isEmpty_0 rfl (lv_at hl 0 rfl) ?_
  refine va_get (D := D) (ci := 11) (v := .int (nI (hd))) (C := RJ4) (T := TJ4) (N := 3) hx hb hts in_J4 hown hK hP 0 rfl rfl 1 (by decide) (hts _ q242) (fun _ h9 => h9) rfl dJ4_isEmpty_1 ?_
  refine lv_aload_n hx hb dJ4_isEmpty_4 rfl (lv_at hl 0 rfl) ?_
  refine va_get (D := D) (ci := 11) (v := .int (nI (tl))) (C := RJ4) (T := TJ4) (N := 3) hx hb hts in_J4 hown hK hP 0 rfl rfl 2 (by decide) (hts _ q243) (fun _ h9 => h9) rfl dJ4_isEmpty_5 ?_
  refine lv_icmp_ne (tgt := 15) hx hb dJ4_isEmpty_8 (by decide) (fun c_1 => ?_) (fun c_1 => ?_)
  · have c_1 := mt (nI_eq (by omega) (by omega)).2 c_1
    refine lv_iconst (v := nI (0)) hx hb dJ4_isEmpty_15 (by decide) ?_
    exact z_zret (v := nI (0)) hx hb hr (by first | rfl | decide) hS ((bI_f c_1).symm) (by omega) (by omega) dJ4_isEmpty_16
  · have c_1 := (nI_eq (by omega) (by omega)).1 c_1
    refine lv_iconst (v := nI (1)) hx hb dJ4_isEmpty_11 (by decide) ?_
    refine lv_goto (tgt := 16) hx hb dJ4_isEmpty_12 (by decide) ?_
    exact z_zret (v := nI (1)) hx hb hr (by first | rfl | decide) hS ((bI_t c_1).symm) (by omega) (by omega) dJ4_isEmpty_16

set_option maxHeartbeats 4000000 in
set_option maxRecDepth 100000 in
theorem mJ4_elementAt (l : Launch) (D : va_G) (dA : Nat → ClassId) (ad : Nat → Nat) (sz : Nat) (da : Nat) (g : Nat → Option Nat) (i : Nat) (y : Nat) (h1 : i < 17) (hg : g i = some y) : Met l yJ4_elementAt (ws_ yJ4_elementAt cJ4_elementAt 2 (some (.object "java/lang/Object"))) ({ frames := 0, cells := 0, slots := 0, locals := 0 }) (va_Pc [.ref da, .int (nI (i))] (zP D dA ad (fun q => sz ≤ q) sz (fun H => va_P D vwCl [(da, .inl (dA 3, 17, .inr (.inr (.inr (.inr g)))))] H))) (zQr (fun rz H => rz = y) (fun q => sz ≤ q)) (0) (0) (fun q => sz ≤ q) := by
  refine Met.ofW (cc := cJ4_elementAt) (maxL := 2) (ret := (some (.object "java/lang/Object"))) (by decide) rfl ?_
  intro p e s m args below meth c s₁ B hml hv
  obtain ⟨rfl, hsz, hC, hP⟩ := hv
  have hx := B.exec
  have hb := B.bytes
  have hr := B.returns
  have hts := atoms_spec (ws := ws_ yJ4_elementAt cJ4_elementAt 2 (some (.object "java/lang/Object"))) B.pre
  have hts : ∀ w ∈ lw_all, w.before _ s = true := fun w h => hts w (List.mem_cons_of_mem _ h)
  have hown : s.vm.findClass RJ4 = some m.cls := findClass_of_methodNamed B.named
  have hlocks := B.notSynchronized
  subst hsz
  have hK := hC.K
  have hA : ∀ q : Nat, s.heap.size ≤ q → s.heap.size ≤ q := fun _ h => h
  have hS : va_S (fun q => s.heap.size ≤ q) s.heap s.heap [] := va_S.rf
  have hP : va_P D vwCl [(da, .inl (dA 3, 17, .inr (.inr (.inr (.inr g)))))] s.heap := hP
  have hl := lv_entry ([.ref da, .int (nI (i))]) (n := 2) (Nat.le_of_ble_eq_true rfl)
  rw [lg_entry_eq]
  generalize (lg_sl ([.ref da, .int (nI (i))]) ++ List.replicate (2 - (lg_sl ([.ref da, .int (nI (i))])).length) Slot.unset).toArray = ls at hl ⊢
  have hl : lv_has ls 2 [(0, .ref da), (1, .int (nI (i)))] := hl
  refine lv_aload_n hx hb dJ4_elementAt_0 rfl (lv_at hl 0 rfl) ?_
  refine lv_iload_n hx hb dJ4_elementAt_1 rfl (lv_at hl 1 rfl) ?_
  refine va_aldq hx hb hK hP 0 3 rfl rfl (vp_in_nI (by omega) (by omega)) dJ4_elementAt_2 ?_
  refine lv_topv (y := .ref y) (by rw [nI_clamp (by omega)]; rw [hg]; rfl) ?_
  exact z_aret (v := y) hx hb hr (Or.inl ⟨_, rfl⟩) hS (rfl) (by omega) (by omega) dJ4_elementAt_3

set_option maxHeartbeats 4000000 in
set_option maxRecDepth 100000 in
theorem mJ4_addLast (l : Launch) (D : va_G) (dA : Nat → ClassId) (ad : Nat → Nat) (A : Nat → Prop) (sz : Nat) (dq : Nat) (da : Nat) (hd : Nat) (tl : Nat) (g : Nat → Option Nat) (v : Nat) (hA : ∀ q, sz ≤ q → A q) (h1 : hd < 17) (h2 : tl < 17) (h3 : hd ≠ i17 tl) (hD : va_D A [(dq, .inr (11, [.ref da, .int (nI (hd)), .int (nI (tl))])), (da, .inl (dA 3, 17, .inr (.inr (.inr (.inr g)))))]) : Met l yJ4_addLast (ws_ yJ4_addLast cJ4_addLast 3 none) ({ frames := 1, cells := 0, slots := 0, locals := 30 }) (va_Pc [.ref dq, .ref v] (zP D dA ad A sz (fun H => va_P D vwCl [(dq, .inr (11, [.ref da, .int (nI (hd)), .int (nI (tl))])), (da, .inl (dA 3, 17, .inr (.inr (.inr (.inr g)))))] H ∧ ObV D 1 A v H))) (zQv (fun H => True ∧ va_P D vwCl [(dq, .inr (11, [.ref da, .int (nI (hd)), .int (nI (i17 tl))])), (da, .inl (dA 3, 17, .inr (.inr (.inr (.inr (va_up g tl (some v)))))))] H) A) (0) (0) A := by
  refine Met.ofW (cc := cJ4_addLast) (maxL := 3) (ret := none) (by decide) rfl ?_
  intro p e s m args below meth c s₁ B hml hv
  obtain ⟨rfl, hsz, hC, hP⟩ := hv
  have hx := B.exec
  have hb := B.bytes
  have hr := B.returns
  have hts := atoms_spec (ws := ws_ yJ4_addLast cJ4_addLast 3 none) B.pre
  have hts : ∀ w ∈ lw_all, w.before _ s = true := fun w h => hts w (List.mem_cons_of_mem _ h)
  have hown : s.vm.findClass RJ4 = some m.cls := findClass_of_methodNamed B.named
  have hlocks := B.notSynchronized
  subst hsz
  have hK := hC.K
  have hS : va_S A s.heap s.heap [] := va_S.rf
  obtain ⟨hP, hP2⟩ := hP
  have hP : va_P D vwCl [(dq, .inr (11, [.ref da, .int (nI (hd)), .int (nI (tl))])), (da, .inl (dA 3, 17, .inr (.inr (.inr (.inr g)))))] s.heap := hP
  have h17 := i17_lt tl
  have hl := lv_entry ([.ref dq, .ref v]) (n := 3) (Nat.le_of_ble_eq_true rfl)
  rw [lg_entry_eq]
  generalize (lg_sl ([.ref dq, .ref v]) ++ List.replicate (3 - (lg_sl ([.ref dq, .ref v])).length) Slot.unset).toArray = ls at hl ⊢
  have hl : lv_has ls 3 [(0, .ref dq), (1, .ref v)] := hl
  refine lv_aload_n hx hb dJ4_addLast_0 rfl (lv_at hl 1 rfl) ?_
  refine lv_ifnonnull (tgt := 12) hx hb dJ4_addLast_1 (by decide) ?_
  refine lv_aload_n hx hb dJ4_addLast_12 rfl (lv_at hl 0 rfl) ?_
  refine va_get (D := D) (ci := 11) (v := .ref da) (C := RJ4) (T := TJ4) (N := 3) hx hb hts in_J4 hown hK hP 0 rfl rfl 0 (by decide) (hts _ q241) (fun _ h9 => h9) rfl dJ4_addLast_13 ?_
  refine lv_astore_n (lv' := [(2, .ref da), (0, .ref dq), (1, .ref v)]) hx hb dJ4_addLast_16 rfl hl (by decide) rfl (fun ls hl => ?_)
  refine lv_aload_n hx hb dJ4_addLast_17 rfl (lv_at hl 0 rfl) ?_
  refine lv_aload_n hx hb dJ4_addLast_18 rfl (lv_at hl 1 rfl) ?_
  refine va_get (D := D) (ci := 11) (v := .int (nI (tl))) (C := RJ4) (T := TJ4) (N := 3) hx hb hts in_J4 hown hK hP 0 rfl rfl 2 (by decide) (hts _ q243) (fun _ h9 => h9) rfl dJ4_addLast_19 ?_
  refine lv_aload_n hx hb dJ4_addLast_22 rfl (lv_at hl 2 rfl) ?_
  refine va_astqM hx hb hK hP hD hS 1 3 rfl rfl ((ObV.anyS hC (hP2.kept hS))) (vp_in_nI (by omega) (by omega)) dJ4_addLast_23 (fun H locs hP hD hS => ?_)
  rw [nI_clamp (by omega)] at hP hD
  have hP : va_P D vwCl [(dq, .inr (11, [.ref da, .int (nI (hd)), .int (nI (tl))])), (da, .inl (dA 3, 17, .inr (.inr (.inr (.inr (va_up g tl (some v)))))))] H := hP
  have hD : va_D A [(dq, .inr (11, [.ref da, .int (nI (hd)), .int (nI (tl))])), (da, .inl (dA 3, 17, .inr (.inr (.inr (.inr (va_up g tl (some v)))))))] := hD
  refine lv_aload_n hx hb dJ4_addLast_24 rfl (lv_at hl 1 rfl) ?_
  refine va_get (D := D) (ci := 11) (v := .int (nI (hd))) (C := RJ4) (T := TJ4) (N := 3) hx hb hts in_J4 hown hK hP 0 rfl rfl 1 (by decide) (hts _ q242) (fun _ h9 => h9) rfl dJ4_addLast_25 ?_
  refine lv_aload_n hx hb dJ4_addLast_28 rfl (lv_at hl 1 rfl) ?_
  refine lv_aload_n hx hb dJ4_addLast_29 rfl (lv_at hl 1 rfl) ?_
  refine va_get (D := D) (ci := 11) (v := .int (nI (tl))) (C := RJ4) (T := TJ4) (N := 3) hx hb hts in_J4 hown hK hP 0 rfl rfl 2 (by decide) (hts _ q243) (fun _ h9 => h9) rfl dJ4_addLast_30 ?_
  refine lv_aload_n hx hb dJ4_addLast_33 rfl (lv_at hl 0 rfl) ?_
  refine va_alen (v := nI (17)) hx hb hK hP 1 3 rfl rfl rfl dJ4_addLast_34 ?_
  refine z_cSi (As := [.int (nI (tl)), .int (nI (17))]) (rest := [.ref dq, .int (nI (hd))]) ⟨hx, hb, hml, hown, hts⟩ (mJ4_inc l D dA ad H.size tl (by omega)) (va_cwS 2 hts (lw_S q837 q838 q62 q839) rfl rfl rfl (by decide +kernel) ⟨Nat.le_of_ble_eq_true rfl, Nat.le_of_ble_eq_true rfl⟩) hC hS (fun _ h => hA _ (Nat.le_trans hS.1 h)) trivial rfl rfl hl.1 (Nat.le_of_ble_eq_true rfl) dJ4_addLast_35 ⟨Nat.le_of_ble_eq_true rfl, Nat.le_of_ble_eq_true rfl⟩ (fun r_1 H locs hQ hF hS => ?_)
  have hP := va_P.ro hF hP
  obtain rfl : nI (i17 tl) = r_1 := hQ.symm
  refine lv_dup_x1 hx hb dJ4_addLast_38 rfl rfl ?_
  refine va_put (D := D) (ci := 11) (v := .int (nI (i17 tl))) (ty := .int) (C := RJ4) (T := TJ4) (N := 3) hx hb hts in_J4 tyJ4 tyJ4_ok nmJ4 hown hK hP hD hS 0 rfl rfl 2 (by decide) (hts _ q243) (fun _ h9 => h9) rfl (by decide +kernel) rfl rfl (Nat.le_of_ble_eq_true rfl) dJ4_addLast_39 (fun H locs hP hD hS => ?_)
  have hP : va_P D vwCl [(dq, .inr (11, [.ref da, .int (nI (hd)), .int (nI (i17 tl))])), (da, .inl (dA 3, 17, .inr (.inr (.inr (.inr (va_up g tl (some v)))))))] H := hP
  have hD : va_D A [(dq, .inr (11, [.ref da, .int (nI (hd)), .int (nI (i17 tl))])), (da, .inl (dA 3, 17, .inr (.inr (.inr (.inr (va_up g tl (some v)))))))] := hD
  refine lv_icmp_ne (tgt := 50) hx hb dJ4_addLast_42 (by decide) (fun c_2 => ?_) (fun c_2 => ?_)
  · have c_2 := mt (nI_eq (by omega) (by omega)).2 c_2
    exact z_vret hx hb hr hS (⟨trivial, hP⟩) (by omega) (by omega) dJ4_addLast_50
  · have c_2 := (nI_eq (by omega) (by omega)).1 c_2
    omega

set_option maxHeartbeats 4000000 in
set_option maxRecDepth 100000 in
theorem mJ4_pollFirst (l : Launch) (D : va_G) (dA : Nat → ClassId) (ad : Nat → Nat) (A : Nat → Prop) (sz : Nat) (dq : Nat) (da : Nat) (hd : Nat) (tl : Nat) (g : Nat → Option Nat) (y : Nat) (hA : ∀ q, sz ≤ q → A q) (h1 : hd < 17) (h2 : tl < 17) (hg : g (hd) = some y) (hD : va_D A [(dq, .inr (11, [.ref da, .int (nI (hd)), .int (nI (tl))])), (da, .inl (dA 3, 17, .inr (.inr (.inr (.inr g)))))]) : Met l yJ4_pollFirst (ws_ yJ4_pollFirst cJ4_pollFirst 4 (some (.object "java/lang/Object"))) ({ frames := 1, cells := 0, slots := 0, locals := 30 }) (va_Pc [.ref dq] (zP D dA ad A sz (fun H => va_P D vwCl [(dq, .inr (11, [.ref da, .int (nI (hd)), .int (nI (tl))])), (da, .inl (dA 3, 17, .inr (.inr (.inr (.inr g)))))] H))) (zQr (fun rz H => rz = y ∧ va_P D vwCl [(dq, .inr (11, [.ref da, .int (nI (i17 hd)), .int (nI (tl))])), (da, .inl (dA 3, 17, .inr (.inr (.inr (.inr (va_up g hd none))))))] H) A) (0) (0) A := by
  refine Met.ofW (cc := cJ4_pollFirst) (maxL := 4) (ret := (some (.object "java/lang/Object"))) (by decide) rfl ?_
  intro p e s m args below meth c s₁ B hml hv
  obtain ⟨rfl, hsz, hC, hP⟩ := hv
  have hx := B.exec
  have hb := B.bytes
  have hr := B.returns
  have hts := atoms_spec (ws := ws_ yJ4_pollFirst cJ4_pollFirst 4 (some (.object "java/lang/Object"))) B.pre
  have hts : ∀ w ∈ lw_all, w.before _ s = true := fun w h => hts w (List.mem_cons_of_mem _ h)
  have hown : s.vm.findClass RJ4 = some m.cls := findClass_of_methodNamed B.named
  have hlocks := B.notSynchronized
  subst hsz
  have hK := hC.K
  have hS : va_S A s.heap s.heap [] := va_S.rf
  have hP : va_P D vwCl [(dq, .inr (11, [.ref da, .int (nI (hd)), .int (nI (tl))])), (da, .inl (dA 3, 17, .inr (.inr (.inr (.inr g)))))] s.heap := hP
  have h17 := d17_lt h2
  have hl := lv_entry ([.ref dq]) (n := 4) (Nat.le_of_ble_eq_true rfl)
  rw [lg_entry_eq]
  generalize (lg_sl ([.ref dq]) ++ List.replicate (4 - (lg_sl ([.ref dq])).length) Slot.unset).toArray = ls at hl ⊢
  have hl : lv_has ls 4 [(0, .ref dq)] := hl
  refine lv_aload_n hx hb dJ4_pollFirst_0 rfl (lv_at hl 0 rfl) ?_
  refine va_get (D := D) (ci := 11) (v := .ref da) (C := RJ4) (T := TJ4) (N := 3) hx hb hts in_J4 hown hK hP 0 rfl rfl 0 (by decide) (hts _ q241) (fun _ h9 => h9) rfl dJ4_pollFirst_1 ?_
  refine lv_dup hx hb dJ4_pollFirst_4 rfl ?_
  refine lv_astore_n (lv' := [(1, .ref da), (0, .ref dq)]) hx hb dJ4_pollFirst_5 rfl hl (by decide) rfl (fun ls hl => ?_)
  refine lv_aload_n hx hb dJ4_pollFirst_6 rfl (lv_at hl 1 rfl) ?_
  refine va_get (D := D) (ci := 11) (v := .int (nI (hd))) (C := RJ4) (T := TJ4) (N := 3) hx hb hts in_J4 hown hK hP 0 rfl rfl 1 (by decide) (hts _ q242) (fun _ h9 => h9) rfl dJ4_pollFirst_7 ?_
  refine lv_dup hx hb dJ4_pollFirst_10 rfl ?_
  refine lv_istore_n (lv' := [(2, .int (nI (hd))), (1, .ref da), (0, .ref dq)]) hx hb dJ4_pollFirst_11 rfl hl (by decide) rfl (fun ls hl => ?_)
  refine z_cSr (As := [.ref da, .int (nI (hd))]) (rest := []) ⟨hx, hb, hml, hown, hts⟩ (mJ4_elementAt l D dA ad s.heap.size da g hd y (by omega) (hg)) (va_cwS 2 hts (lw_S q867 q868 q62 q869) rfl rfl rfl (by decide +kernel) ⟨Nat.le_of_ble_eq_true rfl, Nat.le_of_ble_eq_true rfl⟩) hC hS (fun _ h => hA _ (Nat.le_trans hS.1 h)) (hP.sub (ws' := [(da, .inl (dA 3, 17, .inr (.inr (.inr (.inr g)))))]) [1] rfl) rfl rfl hl.1 (Nat.le_of_ble_eq_true rfl) dJ4_pollFirst_12 ⟨Nat.le_of_ble_eq_true rfl, Nat.le_of_ble_eq_true rfl⟩ (fun r_1 H locs hQ hF hS => ?_)
  have hP := va_P.ro hF hP
  obtain rfl : y = r_1 := hQ.symm
  refine lv_astore_n (lv' := [(3, .ref y), (2, .int (nI (hd))), (1, .ref da), (0, .ref dq)]) hx hb dJ4_pollFirst_15 rfl hl (by decide) rfl (fun ls hl => ?_)
  refine lv_aload_n hx hb dJ4_pollFirst_16 rfl (lv_at hl 0 rfl) ?_
  refine lv_ifnull hx hb dJ4_pollFirst_17 ?_
  refine lv_aload_n hx hb dJ4_pollFirst_20 rfl (lv_at hl 2 rfl) ?_
  refine lv_iload_n hx hb dJ4_pollFirst_21 rfl (lv_at hl 1 rfl) ?_
  refine lv_null hx hb dJ4_pollFirst_22 ?_
  refine va_astqN hx hb hK hP hD hS 1 3 rfl rfl (vp_in_nI (by omega) (by omega)) dJ4_pollFirst_23 (fun H locs hP hD hS => ?_)
  rw [nI_clamp (by omega)] at hP hD
  have hP : va_P D vwCl [(dq, .inr (11, [.ref da, .int (nI (hd)), .int (nI (tl))])), (da, .inl (dA 3, 17, .inr (.inr (.inr (.inr (va_up g hd none))))))] H := hP
  have hD : va_D A [(dq, .inr (11, [.ref da, .int (nI (hd)), .int (nI (tl))])), (da, .inl (dA 3, 17, .inr (.inr (.inr (.inr (va_up g hd none))))))] := hD
  refine lv_aload_n hx hb dJ4_pollFirst_24 rfl (lv_at hl 3 rfl) ?_
  refine lv_iload_n hx hb dJ4_pollFirst_25 rfl (lv_at hl 1 rfl) ?_
  refine lv_aload_n hx hb dJ4_pollFirst_26 rfl (lv_at hl 2 rfl) ?_
  refine va_alen (v := nI (17)) hx hb hK hP 1 3 rfl rfl rfl dJ4_pollFirst_27 ?_
  refine z_cSi (As := [.int (nI (hd)), .int (nI (17))]) (rest := [.ref dq]) ⟨hx, hb, hml, hown, hts⟩ (mJ4_inc l D dA ad H.size hd (by omega)) (va_cwS 2 hts (lw_S q837 q838 q62 q839) rfl rfl rfl (by decide +kernel) ⟨Nat.le_of_ble_eq_true rfl, Nat.le_of_ble_eq_true rfl⟩) hC hS (fun _ h => hA _ (Nat.le_trans hS.1 h)) trivial rfl rfl hl.1 (Nat.le_of_ble_eq_true rfl) dJ4_pollFirst_28 ⟨Nat.le_of_ble_eq_true rfl, Nat.le_of_ble_eq_true rfl⟩ (fun r_2 H locs hQ hF hS => ?_)
  have hP := va_P.ro hF hP
  obtain rfl : nI (i17 hd) = r_2 := hQ.symm
  refine va_put (D := D) (ci := 11) (v := .int (nI (i17 hd))) (ty := .int) (C := RJ4) (T := TJ4) (N := 3) hx hb hts in_J4 tyJ4 tyJ4_ok nmJ4 hown hK hP hD hS 0 rfl rfl 1 (by decide) (hts _ q242) (fun _ h9 => h9) rfl (by decide +kernel) rfl rfl (Nat.le_of_ble_eq_true rfl) dJ4_pollFirst_31 (fun H locs hP hD hS => ?_)
  have hP : va_P D vwCl [(dq, .inr (11, [.ref da, .int (nI (i17 hd)), .int (nI (tl))])), (da, .inl (dA 3, 17, .inr (.inr (.inr (.inr (va_up g hd none))))))] H := hP
  have hD : va_D A [(dq, .inr (11, [.ref da, .int (nI (i17 hd)), .int (nI (tl))])), (da, .inl (dA 3, 17, .inr (.inr (.inr (.inr (va_up g hd none))))))] := hD
  refine lv_aload_n hx hb dJ4_pollFirst_34 rfl (lv_at hl 0 rfl) ?_
  exact z_aret (v := y) hx hb hr (Or.inl ⟨_, rfl⟩) hS (⟨rfl, hP⟩) (by omega) (by omega) dJ4_pollFirst_35

set_option maxHeartbeats 4000000 in
set_option maxRecDepth 100000 in
theorem mJ4_removeFirst (l : Launch) (D : va_G) (dA : Nat → ClassId) (ad : Nat → Nat) (A : Nat → Prop) (sz : Nat) (dq : Nat) (da : Nat) (hd : Nat) (tl : Nat) (g : Nat → Option Nat) (y : Nat) (hA : ∀ q, sz ≤ q → A q) (h1 : hd < 17) (h2 : tl < 17) (hg : g (hd) = some y) (hD : va_D A [(dq, .inr (11, [.ref da, .int (nI (hd)), .int (nI (tl))])), (da, .inl (dA 3, 17, .inr (.inr (.inr (.inr g)))))]) : Met l yJ4_removeFirst (ws_ yJ4_removeFirst cJ4_removeFirst 2 (some (.object "java/lang/Object"))) ({ frames := 2, cells := 0, slots := 0, locals := 60 }) (va_Pc [.ref dq] (zP D dA ad A sz (fun H => va_P D vwCl [(dq, .inr (11, [.ref da, .int (nI (hd)), .int (nI (tl))])), (da, .inl (dA 3, 17, .inr (.inr (.inr (.inr g)))))] H))) (zQr (fun rz H => rz = y ∧ va_P D vwCl [(dq, .inr (11, [.ref da, .int (nI (i17 hd)), .int (nI (tl))])), (da, .inl (dA 3, 17, .inr (.inr (.inr (.inr (va_up g hd none))))))] H) A) (0) (0) A := by
  refine Met.ofW (cc := cJ4_removeFirst) (maxL := 2) (ret := (some (.object "java/lang/Object"))) (by decide) rfl ?_
  intro p e s m args below meth c s₁ B hml hv
  obtain ⟨rfl, hsz, hC, hP⟩ := hv
  have hx := B.exec
  have hb := B.bytes
  have hr := B.returns
  have hts := atoms_spec (ws := ws_ yJ4_removeFirst cJ4_removeFirst 2 (some (.object "java/lang/Object"))) B.pre
  have hts : ∀ w ∈ lw_all, w.before _ s = true := fun w h => hts w (List.mem_cons_of_mem _ h)
  have hown : s.vm.findClass RJ4 = some m.cls := findClass_of_methodNamed B.named
  have hlocks := B.notSynchronized
  subst hsz
  have hK := hC.K
  have hS : va_S A s.heap s.heap [] := va_S.rf
  have hP : va_P D vwCl [(dq, .inr (11, [.ref da, .int (nI (hd)), .int (nI (tl))])), (da, .inl (dA 3, 17, .inr (.inr (.inr (.inr g)))))] s.heap := hP
  have hl := lv_entry ([.ref dq]) (n := 2) (Nat.le_of_ble_eq_true rfl)
  rw [lg_entry_eq]
  generalize (lg_sl ([.ref dq]) ++ List.replicate (2 - (lg_sl ([.ref dq])).length) Slot.unset).toArray = ls at hl ⊢
  have hl : lv_has ls 2 [(0, .ref dq)] := hl
  refine lv_aload_n hx hb dJ4_removeFirst_0 rfl (lv_at hl 0 rfl) ?_
  refine z_cVr (As := []) (rest := []) ⟨hx, hb, hml, hown, hts⟩ (mJ4_pollFirst l D dA ad A s.heap.size dq da hd tl g y (hA_up hA hS) (by omega) (by omega) (hg) (hD.sub [0, 1] (by decide) rfl)) (cwV 0 hts (lw_V q863 q864 q865 q62 q866) rfl rfl rfl (by decide +kernel) ⟨Nat.le_of_ble_eq_true rfl, Nat.le_of_ble_eq_true rfl⟩) hC hS (fun _ h => h) (hP.sub (ws' := [(dq, .inr (11, [.ref da, .int (nI (hd)), .int (nI (tl))])), (da, .inl (dA 3, 17, .inr (.inr (.inr (.inr g)))))]) [0, 1] rfl) (va_recv hK hP (ci := 11) (q0 := 0) rfl rfl) rfl rfl hl.1 (Nat.le_of_ble_eq_true rfl) dJ4_removeFirst_1 ⟨Nat.le_of_ble_eq_true rfl, Nat.le_of_ble_eq_true rfl⟩ (fun r_1 H locs hQ hF hS => ?_)
  obtain ⟨hQ, hP⟩ := hQ
  have hD := va_D.same (ws' := [(dq, .inr (11, [.ref da, .int (nI (i17 hd)), .int (nI (tl))])), (da, .inl (dA 3, 17, .inr (.inr (.inr (.inr (va_up g hd none))))))]) (hD.sub (ws' := [(dq, .inr (11, [.ref da, .int (nI (hd)), .int (nI (tl))])), (da, .inl (dA 3, 17, .inr (.inr (.inr (.inr g)))))]) [0, 1] (by decide) rfl) rfl
  have hP : va_P D vwCl [(dq, .inr (11, [.ref da, .int (nI (i17 hd)), .int (nI (tl))])), (da, .inl (dA 3, 17, .inr (.inr (.inr (.inr (va_up g hd none))))))] H := hP
  have hD : va_D A [(dq, .inr (11, [.ref da, .int (nI (i17 hd)), .int (nI (tl))])), (da, .inl (dA 3, 17, .inr (.inr (.inr (.inr (va_up g hd none))))))] := hD
  obtain rfl : y = r_1 := hQ.symm
  refine lv_astore_n (lv' := [(1, .ref y), (0, .ref dq)]) hx hb dJ4_removeFirst_4 rfl hl (by decide) rfl (fun ls hl => ?_)
  refine lv_aload_n hx hb dJ4_removeFirst_5 rfl (lv_at hl 0 rfl) ?_
  refine lv_ifnonnull (tgt := 17) hx hb dJ4_removeFirst_6 (by decide) ?_
  refine lv_aload_n hx hb dJ4_removeFirst_17 rfl (lv_at hl 0 rfl) ?_
  exact z_aret (v := y) hx hb hr (Or.inl ⟨_, rfl⟩) hS (⟨rfl, hP⟩) (by omega) (by omega) dJ4_removeFirst_18

set_option maxHeartbeats 4000000 in
set_option maxRecDepth 100000 in
theorem mJ4_pollLast (l : Launch) (D : va_G) (dA : Nat → ClassId) (ad : Nat → Nat) (A : Nat → Prop) (sz : Nat) (dq : Nat) (da : Nat) (hd : Nat) (tl : Nat) (g : Nat → Option Nat) (y : Nat) (hA : ∀ q, sz ≤ q → A q) (h1 : hd < 17) (h2 : tl < 17) (hg : g (d17 tl) = some y) (hD : va_D A [(dq, .inr (11, [.ref da, .int (nI (hd)), .int (nI (tl))])), (da, .inl (dA 3, 17, .inr (.inr (.inr (.inr g)))))]) : Met l yJ4_pollLast (ws_ yJ4_pollLast cJ4_pollLast 4 (some (.object "java/lang/Object"))) ({ frames := 1, cells := 0, slots := 0, locals := 30 }) (va_Pc [.ref dq] (zP D dA ad A sz (fun H => va_P D vwCl [(dq, .inr (11, [.ref da, .int (nI (hd)), .int (nI (tl))])), (da, .inl (dA 3, 17, .inr (.inr (.inr (.inr g)))))] H))) (zQr (fun rz H => rz = y ∧ va_P D vwCl [(dq, .inr (11, [.ref da, .int (nI (hd)), .int (nI (d17 tl))])), (da, .inl (dA 3, 17, .inr (.inr (.inr (.inr (va_up g (d17 tl) none))))))] H) A) (0) (0) A := by
  refine Met.ofW (cc := cJ4_pollLast) (maxL := 4) (ret := (some (.object "java/lang/Object"))) (by decide) rfl ?_
  intro p e s m args below meth c s₁ B hml hv
  obtain ⟨rfl, hsz, hC, hP⟩ := hv
  have hx := B.exec
  have hb := B.bytes
  have hr := B.returns
  have hts := atoms_spec (ws := ws_ yJ4_pollLast cJ4_pollLast 4 (some (.object "java/lang/Object"))) B.pre
  have hts : ∀ w ∈ lw_all, w.before _ s = true := fun w h => hts w (List.mem_cons_of_mem _ h)
  have hown : s.vm.findClass RJ4 = some m.cls := findClass_of_methodNamed B.named
  have hlocks := B.notSynchronized
  subst hsz
  have hK := hC.K
  have hS : va_S A s.heap s.heap [] := va_S.rf
  have hP : va_P D vwCl [(dq, .inr (11, [.ref da, .int (nI (hd)), .int (nI (tl))])), (da, .inl (dA 3, 17, .inr (.inr (.inr (.inr g)))))] s.heap := hP
  have h17 := d17_lt h2
  have hl := lv_entry ([.ref dq]) (n := 4) (Nat.le_of_ble_eq_true rfl)
  rw [lg_entry_eq]
  generalize (lg_sl ([.ref dq]) ++ List.replicate (4 - (lg_sl ([.ref dq])).length) Slot.unset).toArray = ls at hl ⊢
  have hl : lv_has ls 4 [(0, .ref dq)] := hl
  refine lv_aload_n hx hb dJ4_pollLast_0 rfl (lv_at hl 0 rfl) ?_
  refine va_get (D := D) (ci := 11) (v := .ref da) (C := RJ4) (T := TJ4) (N := 3) hx hb hts in_J4 hown hK hP 0 rfl rfl 0 (by decide) (hts _ q241) (fun _ h9 => h9) rfl dJ4_pollLast_1 ?_
  refine lv_dup hx hb dJ4_pollLast_4 rfl ?_
  refine lv_astore_n (lv' := [(1, .ref da), (0, .ref dq)]) hx hb dJ4_pollLast_5 rfl hl (by decide) rfl (fun ls hl => ?_)
  refine lv_aload_n hx hb dJ4_pollLast_6 rfl (lv_at hl 1 rfl) ?_
  refine va_get (D := D) (ci := 11) (v := .int (nI (tl))) (C := RJ4) (T := TJ4) (N := 3) hx hb hts in_J4 hown hK hP 0 rfl rfl 2 (by decide) (hts _ q243) (fun _ h9 => h9) rfl dJ4_pollLast_7 ?_
  refine lv_aload_n hx hb dJ4_pollLast_10 rfl (lv_at hl 0 rfl) ?_
  refine va_alen (v := nI (17)) hx hb hK hP 1 3 rfl rfl rfl dJ4_pollLast_11 ?_
  refine z_cSi (As := [.int (nI (tl)), .int (nI (17))]) (rest := [.ref da]) ⟨hx, hb, hml, hown, hts⟩ (mJ4_dec l D dA ad s.heap.size tl (by omega)) (va_cwS 2 hts (lw_S q1067 q1068 q62 q1069) rfl rfl rfl (by decide +kernel) ⟨Nat.le_of_ble_eq_true rfl, Nat.le_of_ble_eq_true rfl⟩) hC hS (fun _ h => hA _ (Nat.le_trans hS.1 h)) trivial rfl rfl hl.1 (Nat.le_of_ble_eq_true rfl) dJ4_pollLast_12 ⟨Nat.le_of_ble_eq_true rfl, Nat.le_of_ble_eq_true rfl⟩ (fun r_1 H locs hQ hF hS => ?_)
  have hP := va_P.ro hF hP
  obtain rfl : nI (d17 tl) = r_1 := hQ.symm
  refine lv_dup hx hb dJ4_pollLast_15 rfl ?_
  refine lv_istore_n (lv' := [(2, .int (nI (d17 tl))), (1, .ref da), (0, .ref dq)]) hx hb dJ4_pollLast_16 rfl hl (by decide) rfl (fun ls hl => ?_)
  refine z_cSr (As := [.ref da, .int (nI (d17 tl))]) (rest := []) ⟨hx, hb, hml, hown, hts⟩ (mJ4_elementAt l D dA ad H.size da g (d17 tl) y (by omega) (hg)) (va_cwS 2 hts (lw_S q867 q868 q62 q869) rfl rfl rfl (by decide +kernel) ⟨Nat.le_of_ble_eq_true rfl, Nat.le_of_ble_eq_true rfl⟩) hC hS (fun _ h => hA _ (Nat.le_trans hS.1 h)) (hP.sub (ws' := [(da, .inl (dA 3, 17, .inr (.inr (.inr (.inr g)))))]) [1] rfl) rfl rfl hl.1 (Nat.le_of_ble_eq_true rfl) dJ4_pollLast_17 ⟨Nat.le_of_ble_eq_true rfl, Nat.le_of_ble_eq_true rfl⟩ (fun r_2 H locs hQ hF hS => ?_)
  have hP := va_P.ro hF hP
  obtain rfl : y = r_2 := hQ.symm
  refine lv_astore_n (lv' := [(3, .ref y), (2, .int (nI (d17 tl))), (1, .ref da), (0, .ref dq)]) hx hb dJ4_pollLast_20 rfl hl (by decide) rfl (fun ls hl => ?_)
  refine lv_aload_n hx hb dJ4_pollLast_21 rfl (lv_at hl 0 rfl) ?_
  refine lv_ifnull hx hb dJ4_pollLast_22 ?_
  refine lv_aload_n hx hb dJ4_pollLast_25 rfl (lv_at hl 2 rfl) ?_
  refine lv_aload_n hx hb dJ4_pollLast_26 rfl (lv_at hl 3 rfl) ?_
  refine lv_iload_n hx hb dJ4_pollLast_27 rfl (lv_at hl 1 rfl) ?_
  refine lv_dup_x1 hx hb dJ4_pollLast_28 rfl rfl ?_
  refine va_put (D := D) (ci := 11) (v := .int (nI (d17 tl))) (ty := .int) (C := RJ4) (T := TJ4) (N := 3) hx hb hts in_J4 tyJ4 tyJ4_ok nmJ4 hown hK hP hD hS 0 rfl rfl 2 (by decide) (hts _ q243) (fun _ h9 => h9) rfl (by decide +kernel) rfl rfl (Nat.le_of_ble_eq_true rfl) dJ4_pollLast_29 (fun H locs hP hD hS => ?_)
  have hP : va_P D vwCl [(dq, .inr (11, [.ref da, .int (nI (hd)), .int (nI (d17 tl))])), (da, .inl (dA 3, 17, .inr (.inr (.inr (.inr g)))))] H := hP
  have hD : va_D A [(dq, .inr (11, [.ref da, .int (nI (hd)), .int (nI (d17 tl))])), (da, .inl (dA 3, 17, .inr (.inr (.inr (.inr g)))))] := hD
  refine lv_null hx hb dJ4_pollLast_32 ?_
  refine va_astqN hx hb hK hP hD hS 1 3 rfl rfl (vp_in_nI (by omega) (by omega)) dJ4_pollLast_33 (fun H locs hP hD hS => ?_)
  rw [nI_clamp (by omega)] at hP hD
  have hP : va_P D vwCl [(dq, .inr (11, [.ref da, .int (nI (hd)), .int (nI (d17 tl))])), (da, .inl (dA 3, 17, .inr (.inr (.inr (.inr (va_up g (d17 tl) none))))))] H := hP
  have hD : va_D A [(dq, .inr (11, [.ref da, .int (nI (hd)), .int (nI (d17 tl))])), (da, .inl (dA 3, 17, .inr (.inr (.inr (.inr (va_up g (d17 tl) none))))))] := hD
  refine lv_aload_n hx hb dJ4_pollLast_34 rfl (lv_at hl 0 rfl) ?_
  exact z_aret (v := y) hx hb hr (Or.inl ⟨_, rfl⟩) hS (⟨rfl, hP⟩) (by omega) (by omega) dJ4_pollLast_35

set_option maxHeartbeats 4000000 in
set_option maxRecDepth 100000 in
theorem mJ4_removeLast (l : Launch) (D : va_G) (dA : Nat → ClassId) (ad : Nat → Nat) (A : Nat → Prop) (sz : Nat) (dq : Nat) (da : Nat) (hd : Nat) (tl : Nat) (g : Nat → Option Nat) (y : Nat) (hA : ∀ q, sz ≤ q → A q) (h1 : hd < 17) (h2 : tl < 17) (hg : g (d17 tl) = some y) (hD : va_D A [(dq, .inr (11, [.ref da, .int (nI (hd)), .int (nI (tl))])), (da, .inl (dA 3, 17, .inr (.inr (.inr (.inr g)))))]) : Met l yJ4_removeLast (ws_ yJ4_removeLast cJ4_removeLast 2 (some (.object "java/lang/Object"))) ({ frames := 2, cells := 0, slots := 0, locals := 60 }) (va_Pc [.ref dq] (zP D dA ad A sz (fun H => va_P D vwCl [(dq, .inr (11, [.ref da, .int (nI (hd)), .int (nI (tl))])), (da, .inl (dA 3, 17, .inr (.inr (.inr (.inr g)))))] H))) (zQr (fun rz H => rz = y ∧ va_P D vwCl [(dq, .inr (11, [.ref da, .int (nI (hd)), .int (nI (d17 tl))])), (da, .inl (dA 3, 17, .inr (.inr (.inr (.inr (va_up g (d17 tl) none))))))] H) A) (0) (0) A := by
  refine Met.ofW (cc := cJ4_removeLast) (maxL := 2) (ret := (some (.object "java/lang/Object"))) (by decide) rfl ?_
  intro p e s m args below meth c s₁ B hml hv
  obtain ⟨rfl, hsz, hC, hP⟩ := hv
  have hx := B.exec
  have hb := B.bytes
  have hr := B.returns
  have hts := atoms_spec (ws := ws_ yJ4_removeLast cJ4_removeLast 2 (some (.object "java/lang/Object"))) B.pre
  have hts : ∀ w ∈ lw_all, w.before _ s = true := fun w h => hts w (List.mem_cons_of_mem _ h)
  have hown : s.vm.findClass RJ4 = some m.cls := findClass_of_methodNamed B.named
  have hlocks := B.notSynchronized
  subst hsz
  have hK := hC.K
  have hS : va_S A s.heap s.heap [] := va_S.rf
  have hP : va_P D vwCl [(dq, .inr (11, [.ref da, .int (nI (hd)), .int (nI (tl))])), (da, .inl (dA 3, 17, .inr (.inr (.inr (.inr g)))))] s.heap := hP
  have hl := lv_entry ([.ref dq]) (n := 2) (Nat.le_of_ble_eq_true rfl)
  rw [lg_entry_eq]
  generalize (lg_sl ([.ref dq]) ++ List.replicate (2 - (lg_sl ([.ref dq])).length) Slot.unset).toArray = ls at hl ⊢
  have hl : lv_has ls 2 [(0, .ref dq)] := hl
  refine lv_aload_n hx hb dJ4_removeLast_0 rfl (lv_at hl 0 rfl) ?_
  refine z_cVr (As := []) (rest := []) ⟨hx, hb, hml, hown, hts⟩ (mJ4_pollLast l D dA ad A s.heap.size dq da hd tl g y (hA_up hA hS) (by omega) (by omega) (hg) (hD.sub [0, 1] (by decide) rfl)) (cwV 0 hts (lw_V q1063 q1064 q1065 q62 q1066) rfl rfl rfl (by decide +kernel) ⟨Nat.le_of_ble_eq_true rfl, Nat.le_of_ble_eq_true rfl⟩) hC hS (fun _ h => h) (hP.sub (ws' := [(dq, .inr (11, [.ref da, .int (nI (hd)), .int (nI (tl))])), (da, .inl (dA 3, 17, .inr (.inr (.inr (.inr g)))))]) [0, 1] rfl) (va_recv hK hP (ci := 11) (q0 := 0) rfl rfl) rfl rfl hl.1 (Nat.le_of_ble_eq_true rfl) dJ4_removeLast_1 ⟨Nat.le_of_ble_eq_true rfl, Nat.le_of_ble_eq_true rfl⟩ (fun r_1 H locs hQ hF hS => ?_)
  obtain ⟨hQ, hP⟩ := hQ
  have hD := va_D.same (ws' := [(dq, .inr (11, [.ref da, .int (nI (hd)), .int (nI (d17 tl))])), (da, .inl (dA 3, 17, .inr (.inr (.inr (.inr (va_up g (d17 tl) none))))))]) (hD.sub (ws' := [(dq, .inr (11, [.ref da, .int (nI (hd)), .int (nI (tl))])), (da, .inl (dA 3, 17, .inr (.inr (.inr (.inr g)))))]) [0, 1] (by decide) rfl) rfl
  have hP : va_P D vwCl [(dq, .inr (11, [.ref da, .int (nI (hd)), .int (nI (d17 tl))])), (da, .inl (dA 3, 17, .inr (.inr (.inr (.inr (va_up g (d17 tl) none))))))] H := hP
  have hD : va_D A [(dq, .inr (11, [.ref da, .int (nI (hd)), .int (nI (d17 tl))])), (da, .inl (dA 3, 17, .inr (.inr (.inr (.inr (va_up g (d17 tl) none))))))] := hD
  obtain rfl : y = r_1 := hQ.symm
  refine lv_astore_n (lv' := [(1, .ref y), (0, .ref dq)]) hx hb dJ4_removeLast_4 rfl hl (by decide) rfl (fun ls hl => ?_)
  refine lv_aload_n hx hb dJ4_removeLast_5 rfl (lv_at hl 0 rfl) ?_
  refine lv_ifnonnull (tgt := 17) hx hb dJ4_removeLast_6 (by decide) ?_
  refine lv_aload_n hx hb dJ4_removeLast_17 rfl (lv_at hl 0 rfl) ?_
  exact z_aret (v := y) hx hb hr (Or.inl ⟨_, rfl⟩) hS (⟨rfl, hP⟩) (by omega) (by omega) dJ4_removeLast_18
