set_option maxHeartbeats 4000000 in
set_option maxRecDepth 100000 in
theorem mX0_changed (l : Launch) (D : va_G) (dA : Nat → ClassId) (ad : Nat → Nat) (A : Nat → Prop) (sz : Nat) (xx : Nat) (st : Nat) (dq : Nat) (sb : Nat) (da : Nat) (hd : Nat) (tl : Nat) (gq : Nat → Option Nat) (tr : Nat) (pp : Nat) (r : Int32) (y0 : Nat) (hA : ∀ q, sz ≤ q → A q) (h1 : hd < 17) (hp9 : pp ≤ 4) (htl : tl = m17 (hd + pp)) (hg : pp = 4 → gq hd = some y0) (hD : va_D A [(xx, .inr (0, [.ref st, .ref dq, .ref sb])), (dq, .inr (11, [.ref da, .int (nI (hd)), .int (nI (tl))])), (da, .inl (dA 3, 17, .inr (.inr (.inr (.inr gq)))))]) : Met l yX0_changed (ws_ yX0_changed cX0_changed 3 (some .int)) ({ frames := 4, cells := 0, slots := 0, locals := 110 }) (va_Pc [.ref xx, .ref tr, .int r] (zP D dA ad A sz (fun H => va_P D vwCl [(xx, .inr (0, [.ref st, .ref dq, .ref sb])), (dq, .inr (11, [.ref da, .int (nI (hd)), .int (nI (tl))])), (da, .inl (dA 3, 17, .inr (.inr (.inr (.inr gq)))))] H ∧ ObV D 1 A st H))) (zQi (fun rz H => rz = r ∧ va_P D vwCl [(xx, .inr (0, [.ref tr, .ref dq, .ref sb])), (dq, .inr (11, [.ref da, .int (nI ((if pp = 4 then i17 hd else hd))), .int (nI (i17 (m17 (hd + pp))))])), (da, .inl (dA 3, 17, .inr (.inr (.inr (.inr (if pp = 4 then va_up (va_up gq (m17 (hd + pp)) (some st)) hd none else va_up gq (m17 (hd + pp)) (some st)))))))] H) A) (0) (0) A := by
  refine Met.ofW (cc := cX0_changed) (maxL := 3) (ret := (some .int)) (by decide) rfl ?_
  intro p e s m args below meth c s₁ B hml hv
  obtain ⟨rfl, hsz, hC, hP⟩ := hv
  have hx := B.exec
  have hb := B.bytes
  have hr := B.returns
  have hts := atoms_spec (ws := ws_ yX0_changed cX0_changed 3 (some .int)) B.pre
  have hts : ∀ w ∈ lw_all, w.before _ s = true := fun w h => hts w (List.mem_cons_of_mem _ h)
  have hown : s.vm.findClass RX0 = some m.cls := findClass_of_methodNamed B.named
  have hlocks := B.notSynchronized
  subst hsz
  have hK := hC.K
  have hS : va_S A s.heap s.heap [] := va_S.rf
  obtain ⟨hP, hP2⟩ := hP
  have hP : va_P D vwCl [(xx, .inr (0, [.ref st, .ref dq, .ref sb])), (dq, .inr (11, [.ref da, .int (nI (hd)), .int (nI (tl))])), (da, .inl (dA 3, 17, .inr (.inr (.inr (.inr gq)))))] s.heap := hP
  have hl := lv_entry ([.ref xx, .ref tr, .int r]) (n := 3) (Nat.le_of_ble_eq_true rfl)
  rw [lg_entry_eq]
  generalize (lg_sl ([.ref xx, .ref tr, .int r]) ++ List.replicate (3 - (lg_sl ([.ref xx, .ref tr, .int r])).length) Slot.unset).toArray = ls at hl ⊢
  have hl : lv_has ls 3 [(0, .ref xx), (1, .ref tr), (2, .int r)] := hl
  subst htl
  have hl17 := m17_lt (x := hd + pp) (by omega)
  refine lv_aload_n hx hb dX0_changed_0 rfl (lv_at hl 0 rfl) ?_
  refine va_get (D := D) (ci := 0) (v := .ref dq) (C := RX0) (T := TX0) (N := 3) hx hb hts in_X0 hown hK hP 0 rfl rfl 1 (by decide) (hts _ q285) (fun _ h9 => h9) rfl dX0_changed_1 ?_
  refine lv_aload_n hx hb dX0_changed_4 rfl (lv_at hl 0 rfl) ?_
  refine va_get (D := D) (ci := 0) (v := .ref st) (C := RX0) (T := TX0) (N := 3) hx hb hts in_X0 hown hK hP 0 rfl rfl 0 (by decide) (hts _ q284) (fun _ h9 => h9) rfl dX0_changed_5 ?_
  have hDc := (hD.sub (ws' := [(dq, .inr (11, [.ref da, .int (nI (hd)), .int (nI ((m17 (hd + pp))))])), (da, .inl (dA 3, 17, .inr (.inr (.inr (.inr gq)))))]) [1, 2] (by decide) rfl).self (sz := s.heap.size)
  have hFc := va_free (wc := [(dq, .inr (11, [.ref da, .int (nI (hd)), .int (nI ((m17 (hd + pp))))])), (da, .inl (dA 3, 17, .inr (.inr (.inr (.inr gq)))))]) hD hS hA [1, 2] rfl
  refine z_cVv (As := [.ref st]) (rest := []) ⟨hx, hb, hml, hown, hts⟩ (mJ4_addLast l D dA ad (va_A [(dq, .inr (11, [.ref da, .int (nI (hd)), .int (nI ((m17 (hd + pp))))])), (da, .inl (dA 3, 17, .inr (.inr (.inr (.inr gq)))))] s.heap.size) s.heap.size dq da hd (m17 (hd + pp)) gq st (fun _ h => Or.inr h) (by omega) (by omega) (dq_ne h1 hp9) hDc) (cwV 1 hts (lw_V q833 q834 q835 q62 q836) rfl rfl rfl (by decide +kernel) ⟨Nat.le_of_ble_eq_true rfl, Nat.le_of_ble_eq_true rfl⟩) hC hS (hFc) ⟨(hP.sub (ws' := [(dq, .inr (11, [.ref da, .int (nI (hd)), .int (nI ((m17 (hd + pp))))])), (da, .inl (dA 3, 17, .inr (.inr (.inr (.inr gq)))))]) [1, 2] rfl), (hP2.kept hS).narrow hFc⟩ (va_recv hK hP (ci := 11) (q0 := 1) rfl rfl) rfl rfl hl.1 (Nat.le_of_ble_eq_true rfl) dX0_changed_8 ⟨Nat.le_of_ble_eq_true rfl, Nat.le_of_ble_eq_true rfl⟩ (fun H locs hQ hF hS => ?_)
  obtain ⟨hQ, hP1⟩ := hQ
  obtain ⟨hP, hD⟩ := va_join (wr := [(xx, .inr (0, [.ref st, .ref dq, .ref sb]))]) (w1 := [(dq, .inr (11, [.ref da, .int (nI (hd)), .int (nI (i17 (m17 (hd + pp))))])), (da, .inl (dA 3, 17, .inr (.inr (.inr (.inr (va_up gq (m17 (hd + pp)) (some st)))))))]) hP hD [1, 2] [0] rfl rfl (by decide) (by decide) hF.2 hFc hP1 (hDc.same rfl)
  have hP := hP.sub (ws' := [(xx, .inr (0, [.ref st, .ref dq, .ref sb])), (dq, .inr (11, [.ref da, .int (nI (hd)), .int (nI (i17 (m17 (hd + pp))))])), (da, .inl (dA 3, 17, .inr (.inr (.inr (.inr (va_up gq (m17 (hd + pp)) (some st)))))))]) [0, 1, 2] rfl
  have hD := hD.sub (ws' := [(xx, .inr (0, [.ref st, .ref dq, .ref sb])), (dq, .inr (11, [.ref da, .int (nI (hd)), .int (nI (i17 (m17 (hd + pp))))])), (da, .inl (dA 3, 17, .inr (.inr (.inr (.inr (va_up gq (m17 (hd + pp)) (some st)))))))]) [0, 1, 2] (by decide) rfl
  refine lv_aload_n hx hb dX0_changed_11 rfl (lv_at hl 0 rfl) ?_
  refine va_get (D := D) (ci := 0) (v := .ref dq) (C := RX0) (T := TX0) (N := 3) hx hb hts in_X0 hown hK hP 0 rfl rfl 1 (by decide) (hts _ q285) (fun _ h9 => h9) rfl dX0_changed_12 ?_
  refine z_cVi (As := []) (rest := []) ⟨hx, hb, hml, hown, hts⟩ (mJ4_size l D dA ad H.size dq da hd (i17 (m17 (hd + pp))) (va_up gq (m17 (hd + pp)) (some st)) (by omega) (i17_lt _)) (cwV 0 hts (lw_V q852 q853 q854 q62 q855) rfl rfl rfl (by decide +kernel) ⟨Nat.le_of_ble_eq_true rfl, Nat.le_of_ble_eq_true rfl⟩) hC hS (fun _ h => hA _ (Nat.le_trans hS.1 h)) (hP.sub (ws' := [(dq, .inr (11, [.ref da, .int (nI (hd)), .int (nI (i17 (m17 (hd + pp))))])), (da, .inl (dA 3, 17, .inr (.inr (.inr (.inr (va_up gq (m17 (hd + pp)) (some st)))))))]) [1, 2] rfl) (va_recv hK hP (ci := 11) (q0 := 1) rfl rfl) rfl rfl hl.1 (Nat.le_of_ble_eq_true rfl) dX0_changed_15 ⟨Nat.le_of_ble_eq_true rfl, Nat.le_of_ble_eq_true rfl⟩ (fun r_2 H locs hQ hF hS => ?_)
  have hP := va_P.ro hF hP
  obtain rfl : nI (s17 (i17 (m17 (hd + pp))) hd) = r_2 := hQ.symm
  refine lv_tope (y := nI (pp + 1)) (by rw [dq_sz h1 (by omega)]) ?_
  refine lv_iconst (v := nI (4)) hx hb dX0_changed_18 (by decide) ?_
  refine lv_icmp_le (tgt := 30) hx hb dX0_changed_19 (by decide) (fun c_3 => ?_) (fun c_3 => ?_)
  · have c_3 := (nI_leI (by omega) (by omega)).1 c_3
    refine lv_aload_n hx hb dX0_changed_30 rfl (lv_at hl 0 rfl) ?_
    refine lv_aload_n hx hb dX0_changed_31 rfl (lv_at hl 1 rfl) ?_
    refine va_put (D := D) (ci := 0) (v := .ref tr) (ty := .object "FencedStandbys$Store") (C := RX0) (T := TX0) (N := 3) hx hb hts in_X0 tyX0 tyX0_ok nmX0 hown hK hP hD hS 0 rfl rfl 0 (by decide) (hts _ q284) (fun _ h9 => h9) rfl (by decide +kernel) rfl rfl (Nat.le_of_ble_eq_true rfl) dX0_changed_32 (fun H locs hP hD hS => ?_)
    have hP : va_P D vwCl [(xx, .inr (0, [.ref tr, .ref dq, .ref sb])), (dq, .inr (11, [.ref da, .int (nI (hd)), .int (nI (i17 (m17 (hd + pp))))])), (da, .inl (dA 3, 17, .inr (.inr (.inr (.inr (va_up gq (m17 (hd + pp)) (some st)))))))] H := hP
    have hD : va_D A [(xx, .inr (0, [.ref tr, .ref dq, .ref sb])), (dq, .inr (11, [.ref da, .int (nI (hd)), .int (nI (i17 (m17 (hd + pp))))])), (da, .inl (dA 3, 17, .inr (.inr (.inr (.inr (va_up gq (m17 (hd + pp)) (some st)))))))] := hD
    refine lv_iload_n hx hb dX0_changed_35 rfl (lv_at hl 2 rfl) ?_
    exact z_iret (v := r) hx hb hr hS (by simp only [if_neg (show ¬ pp = 4 by omega)]; exact ⟨trivial, hP⟩) (by omega) (by omega) dX0_changed_36
  · have c_3 := mt (nI_leI (by omega) (by omega)).2 c_3
    refine lv_aload_n hx hb dX0_changed_22 rfl (lv_at hl 0 rfl) ?_
    refine va_get (D := D) (ci := 0) (v := .ref dq) (C := RX0) (T := TX0) (N := 3) hx hb hts in_X0 hown hK hP 0 rfl rfl 1 (by decide) (hts _ q285) (fun _ h9 => h9) rfl dX0_changed_23 ?_
    have hDc := (hD.sub (ws' := [(dq, .inr (11, [.ref da, .int (nI (hd)), .int (nI (i17 (m17 (hd + pp))))])), (da, .inl (dA 3, 17, .inr (.inr (.inr (.inr (va_up gq (m17 (hd + pp)) (some st)))))))]) [1, 2] (by decide) rfl).self (sz := H.size)
    have hFc := va_free (wc := [(dq, .inr (11, [.ref da, .int (nI (hd)), .int (nI (i17 (m17 (hd + pp))))])), (da, .inl (dA 3, 17, .inr (.inr (.inr (.inr (va_up gq (m17 (hd + pp)) (some st)))))))]) hD hS hA [1, 2] rfl
    refine z_cVr (As := []) (rest := []) ⟨hx, hb, hml, hown, hts⟩ (mJ4_removeFirst l D dA ad (va_A [(dq, .inr (11, [.ref da, .int (nI (hd)), .int (nI (i17 (m17 (hd + pp))))])), (da, .inl (dA 3, 17, .inr (.inr (.inr (.inr (va_up gq (m17 (hd + pp)) (some st)))))))] H.size) H.size dq da hd (i17 (m17 (hd + pp))) (va_up gq (m17 (hd + pp)) (some st)) y0 (fun _ h => Or.inr h) (by omega) (i17_lt _) ((if_neg (dq_n0 h1 (by omega) (by omega))).trans (hg (by omega))) hDc) (cwV 0 hts (lw_V q859 q860 q861 q62 q862) rfl rfl rfl (by decide +kernel) ⟨Nat.le_of_ble_eq_true rfl, Nat.le_of_ble_eq_true rfl⟩) hC hS (hFc) (hP.sub (ws' := [(dq, .inr (11, [.ref da, .int (nI (hd)), .int (nI (i17 (m17 (hd + pp))))])), (da, .inl (dA 3, 17, .inr (.inr (.inr (.inr (va_up gq (m17 (hd + pp)) (some st)))))))]) [1, 2] rfl) (va_recv hK hP (ci := 11) (q0 := 1) rfl rfl) rfl rfl hl.1 (Nat.le_of_ble_eq_true rfl) dX0_changed_26 ⟨Nat.le_of_ble_eq_true rfl, Nat.le_of_ble_eq_true rfl⟩ (fun r_4 H locs hQ hF hS => ?_)
    obtain ⟨hQ, hP1⟩ := hQ
    obtain ⟨hP, hD⟩ := va_join (wr := [(xx, .inr (0, [.ref st, .ref dq, .ref sb]))]) (w1 := [(dq, .inr (11, [.ref da, .int (nI (i17 hd)), .int (nI ((i17 (m17 (hd + pp)))))])), (da, .inl (dA 3, 17, .inr (.inr (.inr (.inr (va_up (va_up gq (m17 (hd + pp)) (some st)) hd none))))))]) hP hD [1, 2] [0] rfl rfl (by decide) (by decide) hF.2 hFc hP1 (hDc.same rfl)
    have hP := hP.sub (ws' := [(xx, .inr (0, [.ref st, .ref dq, .ref sb])), (dq, .inr (11, [.ref da, .int (nI (i17 hd)), .int (nI ((i17 (m17 (hd + pp)))))])), (da, .inl (dA 3, 17, .inr (.inr (.inr (.inr (va_up (va_up gq (m17 (hd + pp)) (some st)) hd none))))))]) [0, 1, 2] rfl
    have hD := hD.sub (ws' := [(xx, .inr (0, [.ref st, .ref dq, .ref sb])), (dq, .inr (11, [.ref da, .int (nI (i17 hd)), .int (nI ((i17 (m17 (hd + pp)))))])), (da, .inl (dA 3, 17, .inr (.inr (.inr (.inr (va_up (va_up gq (m17 (hd + pp)) (some st)) hd none))))))]) [0, 1, 2] (by decide) rfl
    obtain rfl : y0 = r_4 := hQ.symm
    refine lv_pop hx hb dX0_changed_29 rfl ?_
    refine lv_aload_n hx hb dX0_changed_30 rfl (lv_at hl 0 rfl) ?_
    refine lv_aload_n hx hb dX0_changed_31 rfl (lv_at hl 1 rfl) ?_
    refine va_put (D := D) (ci := 0) (v := .ref tr) (ty := .object "FencedStandbys$Store") (C := RX0) (T := TX0) (N := 3) hx hb hts in_X0 tyX0 tyX0_ok nmX0 hown hK hP hD hS 0 rfl rfl 0 (by decide) (hts _ q284) (fun _ h9 => h9) rfl (by decide +kernel) rfl rfl (Nat.le_of_ble_eq_true rfl) dX0_changed_32 (fun H locs hP hD hS => ?_)
    have hP : va_P D vwCl [(xx, .inr (0, [.ref tr, .ref dq, .ref sb])), (dq, .inr (11, [.ref da, .int (nI (i17 hd)), .int (nI ((i17 (m17 (hd + pp)))))])), (da, .inl (dA 3, 17, .inr (.inr (.inr (.inr (va_up (va_up gq (m17 (hd + pp)) (some st)) hd none))))))] H := hP
    have hD : va_D A [(xx, .inr (0, [.ref tr, .ref dq, .ref sb])), (dq, .inr (11, [.ref da, .int (nI (i17 hd)), .int (nI ((i17 (m17 (hd + pp)))))])), (da, .inl (dA 3, 17, .inr (.inr (.inr (.inr (va_up (va_up gq (m17 (hd + pp)) (some st)) hd none))))))] := hD
    refine lv_iload_n hx hb dX0_changed_35 rfl (lv_at hl 2 rfl) ?_
    exact z_iret (v := r) hx hb hr hS (by simp only [if_pos (show pp = 4 by omega)]; exact ⟨trivial, hP⟩) (by omega) (by omega) dX0_changed_36
