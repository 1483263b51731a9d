set_option maxHeartbeats 4000000 in
set_option maxRecDepth 100000 in
theorem mJ14_checkIndex (l : Launch) (D : va_G) (dA : Nat → ClassId) (ad : Nat → Nat) (sz : Nat) (i : Nat) (n : Nat) (h1 : i < n) (h2 : n < 2 ^ 31) : Met l yJ14_checkIndex (ws_ yJ14_checkIndex cJ14_checkIndex 3 (some .int)) ({ frames := 0, cells := 0, slots := 0, locals := 0 }) (va_Pc [.int (nI (i)), .int (nI (n)), .null] (zP D dA ad (fun q => sz ≤ q) sz (fun H => True))) (zQi (fun rz H => rz = nI (i)) (fun q => sz ≤ q)) (0) (0) (fun q => sz ≤ q) := by
  refine Met.ofW (cc := cJ14_checkIndex) (maxL := 3) (ret := (some .int)) (by decide) rfl ?_
  intro p e s m args below meth c s₁ B hml hv
  obtain ⟨rfl, hsz, hC, hP⟩ := hv
  have hx := B.exec
  have hb := B.bytes
  have hr := B.returns
  have hts := atoms_spec (ws := ws_ yJ14_checkIndex cJ14_checkIndex 3 (some .int)) B.pre
  have hts : ∀ w ∈ lw_all, w.before _ s = true := fun w h => hts w (List.mem_cons_of_mem _ h)
  have hown : s.vm.findClass RJ14 = some m.cls := findClass_of_methodNamed B.named
  have hlocks := B.notSynchronized
  subst hsz
  have hK := hC.K
  have hA : ∀ q : Nat, s.heap.size ≤ q → s.heap.size ≤ q := fun _ h => h
  have hS : va_S (fun q => s.heap.size ≤ q) s.heap s.heap [] := va_S.rf
  have hP : va_P D vwCl [] s.heap := va_Pnil
  have hl := lv_entry ([.int (nI (i)), .int (nI (n)), .null]) (n := 3) (Nat.le_of_ble_eq_true rfl)
  rw [lg_entry_eq]
  generalize (lg_sl ([.int (nI (i)), .int (nI (n)), .null]) ++ List.replicate (3 - (lg_sl ([.int (nI (i)), .int (nI (n)), .null])).length) Slot.unset).toArray = ls at hl ⊢
  have hl : lv_has ls 3 [(0, .int (nI (i))), (1, .int (nI (n))), (2, .null)] := hl
  refine lv_iload_n hx hb dJ14_checkIndex_0 rfl (lv_at hl 0 rfl) ?_
  refine lv_if_lt (tgt := 9) hx hb dJ14_checkIndex_1 (by decide) (fun c_1 => ?_) (fun c_1 => ?_)
  · exact absurd c_1 (nI_pos (by omega))
  · refine lv_iload_n hx hb dJ14_checkIndex_4 rfl (lv_at hl 0 rfl) ?_
    refine lv_iload_n hx hb dJ14_checkIndex_5 rfl (lv_at hl 1 rfl) ?_
    refine lv_icmp_lt (tgt := 16) hx hb dJ14_checkIndex_6 (by decide) (fun c_2 => ?_) (fun c_2 => ?_)
    · have c_2 := (nI_ltI (by omega) (by omega)).1 c_2
      refine lv_iload_n hx hb dJ14_checkIndex_16 rfl (lv_at hl 0 rfl) ?_
      exact z_iret (v := nI (i)) hx hb hr hS (rfl) (by omega) (by omega) dJ14_checkIndex_17
    · have c_2 := mt (nI_ltI (by omega) (by omega)).2 c_2
      omega

set_option maxHeartbeats 4000000 in
set_option maxRecDepth 100000 in
theorem mJ19_checkIndex (l : Launch) (D : va_G) (dA : Nat → ClassId) (ad : Nat → Nat) (sz : Nat) (i : Nat) (n : Nat) (h1 : i < n) (h2 : n < 2 ^ 31) : Met l yJ19_checkIndex (ws_ yJ19_checkIndex cJ19_checkIndex 2 (some .int)) ({ frames := 1, cells := 0, slots := 0, locals := 30 }) (va_Pc [.int (nI (i)), .int (nI (n))] (zP D dA ad (fun q => sz ≤ q) sz (fun H => True))) (zQi (fun rz H => rz = nI (i)) (fun q => sz ≤ q)) (0) (0) (fun q => sz ≤ q) := by
  refine Met.ofW (cc := cJ19_checkIndex) (maxL := 2) (ret := (some .int)) (by decide) rfl ?_
  intro p e s m args below meth c s₁ B hml hv
  obtain ⟨rfl, hsz, hC, hP⟩ := hv
  have hx := B.exec
  have hb := B.bytes
  have hr := B.returns
  have hts := atoms_spec (ws := ws_ yJ19_checkIndex cJ19_checkIndex 2 (some .int)) B.pre
  have hts : ∀ w ∈ lw_all, w.before _ s = true := fun w h => hts w (List.mem_cons_of_mem _ h)
  have hown : s.vm.findClass RJ19 = some m.cls := findClass_of_methodNamed B.named
  have hlocks := B.notSynchronized
  subst hsz
  have hK := hC.K
  have hA : ∀ q : Nat, s.heap.size ≤ q → s.heap.size ≤ q := fun _ h => h
  have hS : va_S (fun q => s.heap.size ≤ q) s.heap s.heap [] := va_S.rf
  have hP : va_P D vwCl [] s.heap := va_Pnil
  have hl := lv_entry ([.int (nI (i)), .int (nI (n))]) (n := 2) (Nat.le_of_ble_eq_true rfl)
  rw [lg_entry_eq]
  generalize (lg_sl ([.int (nI (i)), .int (nI (n))]) ++ List.replicate (2 - (lg_sl ([.int (nI (i)), .int (nI (n))])).length) Slot.unset).toArray = ls at hl ⊢
  have hl : lv_has ls 2 [(0, .int (nI (i))), (1, .int (nI (n)))] := hl
  refine lv_iload_n hx hb dJ19_checkIndex_0 rfl (lv_at hl 0 rfl) ?_
  refine lv_iload_n hx hb dJ19_checkIndex_1 rfl (lv_at hl 1 rfl) ?_
  refine lv_null hx hb dJ19_checkIndex_2 ?_
  refine z_cSi (As := [.int (nI (i)), .int (nI (n)), .null]) (rest := []) ⟨hx, hb, hml, hown, hts⟩ (mJ14_checkIndex l D dA ad s.heap.size i n (by omega) (by omega)) (va_cwS 3 hts (lw_S q742 q743 q74 q744) rfl rfl rfl (by decide +kernel) ⟨Nat.le_of_ble_eq_true rfl, Nat.le_of_ble_eq_true rfl⟩) hC hS (fun _ h => hA _ (Nat.le_trans hS.1 h)) trivial rfl rfl hl.1 (Nat.le_of_ble_eq_true rfl) dJ19_checkIndex_3 ⟨Nat.le_of_ble_eq_true rfl, Nat.le_of_ble_eq_true rfl⟩ (fun r_1 H locs hQ hF hS => ?_)
  obtain rfl : nI (i) = r_1 := hQ.symm
  exact z_iret (v := nI (i)) hx hb hr hS (rfl) (by omega) (by omega) dJ19_checkIndex_6

set_option maxHeartbeats 4000000 in
set_option maxRecDepth 100000 in
theorem mJ10_newLength (l : Launch) (D : va_G) (dA : Nat → ClassId) (ad : Nat → Nat) (sz : Nat) (a : Nat) (b : Nat) (d : Nat) (h1 : 1 ≤ b) (h2 : a ≤ 100000) (h3 : b ≤ 100000) (h4 : d ≤ 100000) : Met l yJ10_newLength (ws_ yJ10_newLength cJ10_newLength 4 (some .int)) ({ frames := 1, cells := 0, slots := 0, locals := 30 }) (va_Pc [.int (nI (a)), .int (nI (b)), .int (nI (d))] (zP D dA ad (fun q => sz ≤ q) sz (fun H => True))) (zQi (fun rz H => rz = (nI (a + (if b < d then d else b)))) (fun q => sz ≤ q)) (0) (0) (fun q => sz ≤ q) := by
  refine Met.ofW (cc := cJ10_newLength) (maxL := 4) (ret := (some .int)) (by decide) rfl ?_
  intro p e s m args below meth c s₁ B hml hv
  obtain ⟨rfl, hsz, hC, hP⟩ := hv
  have hx := B.exec
  have hb := B.bytes
  have hr := B.returns
  have hts := atoms_spec (ws := ws_ yJ10_newLength cJ10_newLength 4 (some .int)) B.pre
  have hts : ∀ w ∈ lw_all, w.before _ s = true := fun w h => hts w (List.mem_cons_of_mem _ h)
  have hown : s.vm.findClass RJ10 = some m.cls := findClass_of_methodNamed B.named
  have hlocks := B.notSynchronized
  subst hsz
  have hK := hC.K
  have hA : ∀ q : Nat, s.heap.size ≤ q → s.heap.size ≤ q := fun _ h => h
  have hS : va_S (fun q => s.heap.size ≤ q) s.heap s.heap [] := va_S.rf
  have hP : va_P D vwCl [] s.heap := va_Pnil
  have hmx : (if b < d then d else b) ≤ 100000 ∧ 1 ≤ (if b < d then d else b) := by split <;> omega
  have hl := lv_entry ([.int (nI (a)), .int (nI (b)), .int (nI (d))]) (n := 4) (Nat.le_of_ble_eq_true rfl)
  rw [lg_entry_eq]
  generalize (lg_sl ([.int (nI (a)), .int (nI (b)), .int (nI (d))]) ++ List.replicate (4 - (lg_sl ([.int (nI (a)), .int (nI (b)), .int (nI (d))])).length) Slot.unset).toArray = ls at hl ⊢
  have hl : lv_has ls 4 [(0, .int (nI (a))), (1, .int (nI (b))), (2, .int (nI (d)))] := hl
  refine lv_iload_n hx hb dJ10_newLength_0 rfl (lv_at hl 0 rfl) ?_
  refine lv_iload_n hx hb dJ10_newLength_1 rfl (lv_at hl 1 rfl) ?_
  refine lv_iload_n hx hb dJ10_newLength_2 rfl (lv_at hl 2 rfl) ?_
  refine va_mmax hx hb (hml.trans hl.1.symm) hown (hts _ q376) (hts _ q377) (hts _ q70) (hts _ q378) (Nat.le_of_ble_eq_true rfl) (Nat.le_of_ble_eq_true rfl) (by first | exact Nat.le_of_ble_eq_true rfl | (show _ ≤ _; simp only [headSpec]; omega)) (by first | exact Nat.le_of_ble_eq_true rfl | (show _ ≤ _; simp only [headSpec]; omega)) dJ10_newLength_3 ?_
  refine lv_tope (y := nI (if b < d then d else b)) (mx_n (by omega) (by omega)) ?_
  refine lv_iadd hx hb dJ10_newLength_6 ?_
  refine lv_tope (y := nI (a + (if b < d then d else b))) (nI_add _ _) ?_
  refine lv_istore_n (lv' := [(3, .int (nI (a + (if b < d then d else b)))), (0, .int (nI (a))), (1, .int (nI (b))), (2, .int (nI (d)))]) hx hb dJ10_newLength_7 rfl hl (by decide) rfl (fun ls hl => ?_)
  refine lv_iconst (v := nI (0)) hx hb dJ10_newLength_8 (by decide) ?_
  refine lv_iload_n hx hb dJ10_newLength_9 rfl (lv_at hl 0 rfl) ?_
  refine lv_icmp_ge (tgt := 21) hx hb dJ10_newLength_10 (by decide) (fun c_1 => ?_) (fun c_1 => ?_)
  · have c_1 := (nI_leI (by omega) (by omega)).1 c_1
    omega
  · have c_1 := mt (nI_leI (by omega) (by omega)).2 c_1
    refine lv_iload_n hx hb dJ10_newLength_13 rfl (lv_at hl 0 rfl) ?_
    refine lv_ldc (v := nI (2147483639)) hx hb hown (hts _ q379) dJ10_newLength_14 ?_
    refine lv_icmp_gt (tgt := 21) hx hb dJ10_newLength_16 (by decide) (fun c_2 => ?_) (fun c_2 => ?_)
    · have c_2 := (nI_ltI (by omega) (by omega)).1 c_2
      omega
    · have c_2 := mt (nI_ltI (by omega) (by omega)).2 c_2
      refine lv_iload_n hx hb dJ10_newLength_19 rfl (lv_at hl 0 rfl) ?_
      exact z_iret (v := nI (a + (if b < d then d else b))) hx hb hr hS (rfl) (by omega) (by omega) dJ10_newLength_20

set_option maxHeartbeats 4000000 in
set_option maxRecDepth 100000 in
theorem mJ12_copyOf_2 (l : Launch) (D : va_G) (dA : Nat → ClassId) (ad : Nat → Nat) (sz : Nat) (ar : Nat) (n : Nat) (g : Nat → Option Nat) (k : Nat) (h1 : n ≤ k) (h2 : k ≤ 65536) : Met l yJ12_copyOf_2 (ws_ yJ12_copyOf_2 cJ12_copyOf_2 4 (some (.array (.object "java/lang/Object")))) ({ frames := 1, cells := 1, slots := k, locals := 60 }) (va_Pc [.ref ar, .int (nI (k)), .ref (ad 9)] (zP D dA ad (fun q => sz ≤ q) sz (fun H => va_P D vwCl [(ar, .inl (dA 3, n, .inr (.inr (.inr (.inr g)))))] H ∧ NtG D (fun q => sz ≤ q) g n H))) (zQr (fun rz H => True ∧ va_P D vwCl [(rz, .inl (dA 3, k, .inr (.inr (.inr (.inr (va_cpy g (fun _ => none) 0 0 n))))))] H ∧ va_D (fun q => sz ≤ q) [(rz, .inl (dA 3, k, .inr (.inr (.inr (.inr (va_cpy g (fun _ => none) 0 0 n))))))]) (fun q => sz ≤ q)) (1) (k) (fun q => sz ≤ q) := by
  refine Met.ofW (cc := cJ12_copyOf_2) (maxL := 4) (ret := (some (.array (.object "java/lang/Object")))) (by decide) rfl ?_
  intro p e s m args below meth c s₁ B hml hv
  obtain ⟨rfl, hsz, hC, hP⟩ := hv
  have hx := B.exec
  have hb := B.bytes
  have hr := B.returns
  have hts := atoms_spec (ws := ws_ yJ12_copyOf_2 cJ12_copyOf_2 4 (some (.array (.object "java/lang/Object")))) B.pre
  have hts : ∀ w ∈ lw_all, w.before _ s = true := fun w h => hts w (List.mem_cons_of_mem _ h)
  have hown : s.vm.findClass RJ12 = some m.cls := findClass_of_methodNamed B.named
  have hlocks := B.notSynchronized
  subst hsz
  have hK := hC.K
  have hA : ∀ q : Nat, s.heap.size ≤ q → s.heap.size ≤ q := fun _ h => h
  have hS : va_S (fun q => s.heap.size ≤ q) s.heap s.heap [] := va_S.rf
  obtain ⟨hZ, hP2⟩ := hP
  have hP : va_P D vwCl [] s.heap := va_Pnil
  have hZ : zFz D (fun q => s.heap.size ≤ q) [(ar, .inl (dA 3, n, .inr (.inr (.inr (.inr g)))))] s.heap := zFz_ro hZ
  have hD : va_D (fun q => s.heap.size ≤ q) [] := va_Dnil
  have hl := lv_entry ([.ref ar, .int (nI (k)), .ref (ad 9)]) (n := 4) (Nat.le_of_ble_eq_true rfl)
  rw [lg_entry_eq]
  generalize (lg_sl ([.ref ar, .int (nI (k)), .ref (ad 9)]) ++ List.replicate (4 - (lg_sl ([.ref ar, .int (nI (k)), .ref (ad 9)])).length) Slot.unset).toArray = ls at hl ⊢
  have hl : lv_has ls 4 [(0, .ref ar), (1, .int (nI (k))), (2, .ref (ad 9))] := hl
  refine lv_aload_n hx hb dJ12_copyOf_2_0 rfl (lv_at hl 2 rfl) ?_
  refine va_ldcM hx hb hown (hts _ q407) hC.mi dJ12_copyOf_2_1 ?_
  refine lv_acmp_ne (tgt := 13) (rx := some (ad 9)) (ry := some (ad 9)) hx hb dJ12_copyOf_2_3 (by decide) (fun c_1 => ?_) (fun c_1 => ?_)
  · exact absurd rfl c_1
  · refine lv_iload_n hx hb dJ12_copyOf_2_6 rfl (lv_at hl 1 rfl) ?_
    refine z_newo hx hb hown (hts _ q408) hC.aoO hK hP hD hS hA (N := k) (by first | omega | decide) (by first | exact Nat.le_of_ble_eq_true rfl | (show _ ≤ _; simp only [headSpec]; omega)) (by first | exact Nat.le_of_ble_eq_true rfl | (show _ ≤ _; simp only [headSpec]; omega)) dJ12_copyOf_2_7 (fun qn H hP hD hS => ?_)
    have hP : va_P D vwCl [(qn, .inl (dA 3, k, .inr (.inr (.inr (.inr (fun _ => none))))))] H := hP
    have hD : va_D (fun q => s.heap.size ≤ q) [(qn, .inl (dA 3, k, .inr (.inr (.inr (.inr (fun _ => none))))))] := hD
    refine lv_goto (tgt := 24) hx hb dJ12_copyOf_2_10 (by decide) ?_
    refine lv_astore_n (lv' := [(3, .ref qn), (0, .ref ar), (1, .int (nI (k))), (2, .ref (ad 9))]) hx hb dJ12_copyOf_2_24 rfl hl (by decide) rfl (fun ls hl => ?_)
    refine lv_aload_n hx hb dJ12_copyOf_2_25 rfl (lv_at hl 1 rfl) ?_
    refine lv_iconst (v := nI (0)) hx hb dJ12_copyOf_2_26 (by decide) ?_
    refine lv_aload_n hx hb dJ12_copyOf_2_27 rfl (lv_at hl 0 rfl) ?_
    refine lv_iconst (v := nI (0)) hx hb dJ12_copyOf_2_28 (by decide) ?_
    refine lv_aload_n hx hb dJ12_copyOf_2_29 rfl (lv_at hl 1 rfl) ?_
    refine va_alen (v := nI (n)) hx hb hK (hZ.at hS) 0 3 rfl rfl rfl dJ12_copyOf_2_30 ?_
    refine lv_iload_n hx hb dJ12_copyOf_2_31 rfl (lv_at hl 2 rfl) ?_
    refine va_mmin hx hb (hml.trans hl.1.symm) hown (hts _ q409) (hts _ q410) (hts _ q70) (hts _ q411) (Nat.le_of_ble_eq_true rfl) (Nat.le_of_ble_eq_true rfl) (by first | exact Nat.le_of_ble_eq_true rfl | (show _ ≤ _; simp only [headSpec]; omega)) (by first | exact Nat.le_of_ble_eq_true rfl | (show _ ≤ _; simp only [headSpec]; omega)) dJ12_copyOf_2_32 ?_
    refine lv_tope (y := nI (if k < n then k else n)) (mn_n (by omega) (by omega)) ?_
    refine lv_tope (y := nI (n)) (by rw [if_neg (by omega)]) ?_
    refine z_copyq (q1 := 0) (q0 := 0) hx hb (hml.trans hl.1.symm) hown (hts _ q412) (hts _ q414) (hts _ q413) (hts _ q72) hC hP hD hS (hZ.at hS) rfl rfl (by omega) (by omega) (by omega) (hP2.kept hS) (Nat.le_of_ble_eq_true rfl) (Nat.le_of_ble_eq_true rfl) dJ12_copyOf_2_35 (fun H locs hP hD hS => ?_)
    have hP : va_P D vwCl [(qn, .inl (dA 3, k, .inr (.inr (.inr (.inr (va_cpy g (fun _ => none) 0 0 n))))))] H := hP
    have hD : va_D (fun q => s.heap.size ≤ q) [(qn, .inl (dA 3, k, .inr (.inr (.inr (.inr (va_cpy g (fun _ => none) 0 0 n))))))] := hD
    refine lv_aload_n hx hb dJ12_copyOf_2_38 rfl (lv_at hl 0 rfl) ?_
    exact z_aret (v := qn) hx hb hr (Or.inr ⟨_, rfl⟩) hS (⟨trivial, hP, hD⟩) (by decide) (by omega) dJ12_copyOf_2_39

set_option maxHeartbeats 4000000 in
set_option maxRecDepth 100000 in
theorem mJ12_copyOf (l : Launch) (D : va_G) (dA : Nat → ClassId) (ad : Nat → Nat) (sz : Nat) (ar : Nat) (n : Nat) (g : Nat → Option Nat) (k : Nat) (h1 : n ≤ k) (h2 : k ≤ 65536) : Met l yJ12_copyOf (ws_ yJ12_copyOf cJ12_copyOf 2 (some (.array (.object "java/lang/Object")))) ({ frames := 2, cells := 1, slots := k, locals := 100 }) (va_Pc [.ref ar, .int (nI (k))] (zP D dA ad (fun q => sz ≤ q) sz (fun H => va_P D vwCl [(ar, .inl (dA 3, n, .inr (.inr (.inr (.inr g)))))] H ∧ NtG D (fun q => sz ≤ q) g n H))) (zQr (fun rz H => True ∧ va_P D vwCl [(rz, .inl (dA 3, k, .inr (.inr (.inr (.inr (va_cpy g (fun _ => none) 0 0 n))))))] H ∧ va_D (fun q => sz ≤ q) [(rz, .inl (dA 3, k, .inr (.inr (.inr (.inr (va_cpy g (fun _ => none) 0 0 n))))))]) (fun q => sz ≤ q)) (1) (k) (fun q => sz ≤ q) := by
  refine Met.ofW (cc := cJ12_copyOf) (maxL := 2) (ret := (some (.array (.object "java/lang/Object")))) (by decide) rfl ?_
  intro p e s m args below meth c s₁ B hml hv
  obtain ⟨rfl, hsz, hC, hP⟩ := hv
  have hx := B.exec
  have hb := B.bytes
  have hr := B.returns
  have hts := atoms_spec (ws := ws_ yJ12_copyOf cJ12_copyOf 2 (some (.array (.object "java/lang/Object")))) B.pre
  have hts : ∀ w ∈ lw_all, w.before _ s = true := fun w h => hts w (List.mem_cons_of_mem _ h)
  have hown : s.vm.findClass RJ12 = some m.cls := findClass_of_methodNamed B.named
  have hlocks := B.notSynchronized
  subst hsz
  have hK := hC.K
  have hA : ∀ q : Nat, s.heap.size ≤ q → s.heap.size ≤ q := fun _ h => h
  have hS : va_S (fun q => s.heap.size ≤ q) s.heap s.heap [] := va_S.rf
  obtain ⟨hZ, hP2⟩ := hP
  have hP : va_P D vwCl [] s.heap := va_Pnil
  have hZ : zFz D (fun q => s.heap.size ≤ q) [(ar, .inl (dA 3, n, .inr (.inr (.inr (.inr g)))))] s.heap := zFz_ro hZ
  have hD : va_D (fun q => s.heap.size ≤ q) [] := va_Dnil
  have hl := lv_entry ([.ref ar, .int (nI (k))]) (n := 2) (Nat.le_of_ble_eq_true rfl)
  rw [lg_entry_eq]
  generalize (lg_sl ([.ref ar, .int (nI (k))]) ++ List.replicate (2 - (lg_sl ([.ref ar, .int (nI (k))])).length) Slot.unset).toArray = ls at hl ⊢
  have hl : lv_has ls 2 [(0, .ref ar), (1, .int (nI (k)))] := hl
  refine lv_aload_n hx hb dJ12_copyOf_0 rfl (lv_at hl 0 rfl) ?_
  refine lv_iload_n hx hb dJ12_copyOf_1 rfl (lv_at hl 1 rfl) ?_
  refine lv_aload_n hx hb dJ12_copyOf_2 rfl (lv_at hl 0 rfl) ?_
  refine va_getC hx hb (hml.trans hl.1.symm) hown (C := "[Ljava/lang/Object;") (mi := ad 9) (hts _ q386) hC.dc.use (hts _ q1636) (hts _ q387) (hts _ q403) hC.mi (z_arecv hC (hZ.at hS) (q0 := 0) rfl) (Nat.le_of_ble_eq_true rfl) (Nat.le_of_ble_eq_true rfl) dJ12_copyOf_3 ?_
  have hSo := hS
  refine z_cSr (As := [.ref ar, .int (nI (k)), .ref (ad 9)]) (rest := []) ⟨hx, hb, hml, hown, hts⟩ (mJ12_copyOf_2 l D dA ad s.heap.size ar n g k (by omega) (by omega)) (va_cwS 3 hts (lw_S q404 q405 q71 q406) rfl rfl rfl (by decide +kernel) ⟨Nat.le_of_ble_eq_true rfl, Nat.le_of_ble_eq_true rfl⟩) hC hS (fun _ h => hA _ (Nat.le_trans hS.1 h)) ⟨((hZ.at hS).sub (ws' := [(ar, .inl (dA 3, n, .inr (.inr (.inr (.inr g)))))]) [0] rfl), hP2.kept hS⟩ rfl rfl hl.1 (Nat.le_of_ble_eq_true rfl) dJ12_copyOf_6 ⟨by first | exact Nat.le_of_ble_eq_true rfl | (show _ ≤ _; simp only [headSpec]; omega), by first | exact Nat.le_of_ble_eq_true rfl | (show _ ≤ _; simp only [headSpec]; omega)⟩ (fun r_1 H locs hQ hF hS => ?_)
  obtain ⟨hQ, hP1, hD1⟩ := hQ
  obtain ⟨hP, hD⟩ := z_addnew (hA_up hA hSo) hP hD hF hP1 hD1
  have hP : va_P D vwCl [(r_1, .inl (dA 3, k, .inr (.inr (.inr (.inr (va_cpy g (fun _ => none) 0 0 n))))))] H := hP
  have hD : va_D (fun q => s.heap.size ≤ q) [(r_1, .inl (dA 3, k, .inr (.inr (.inr (.inr (va_cpy g (fun _ => none) 0 0 n))))))] := hD
  exact z_aret (v := r_1) hx hb hr (Or.inr ⟨_, rfl⟩) hS (⟨trivial, hP, hD⟩) (by omega) (by omega) dJ12_copyOf_9
