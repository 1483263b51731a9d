set_option maxHeartbeats 4000000 in
set_option maxRecDepth 100000 in
theorem mX0_orNotFound (l : Launch) (D : va_G) (dA : Nat → ClassId) (ad : Nat → Nat) (sz : Nat) (x : Int32) : Met l yX0_orNotFound (ws_ yX0_orNotFound cX0_orNotFound 1 (some .int)) ({ frames := 0, cells := 0, slots := 0, locals := 0 }) (va_Pc [.int x] (zP D dA ad (fun q => sz ≤ q) sz (fun H => True))) (zQi (fun rz H => rz = oNF x) (fun q => sz ≤ q)) (0) (0) (fun q => sz ≤ q) := by
  refine Met.ofW (cc := cX0_orNotFound) (maxL := 1) (ret := (some .int)) (by decide) rfl ?_
  intro p e s m args below meth c s₁ B hml hv
  obtain ⟨rfl, hsz, hC, hP⟩ := hv
  have hx := B.exec
  have hb := B.bytes
  have hr := B.returns
  have hts := atoms_spec (ws := ws_ yX0_orNotFound cX0_orNotFound 1 (some .int)) B.pre
  have hts : ∀ w ∈ lw_all, w.before _ s = true := fun w h => hts w (List.mem_cons_of_mem _ h)
  have hown : s.vm.findClass RX0 = some m.cls := findClass_of_methodNamed B.named
  have hlocks := B.notSynchronized
  subst hsz
  have hK := hC.K
  have hA : ∀ q : Nat, s.heap.size ≤ q → s.heap.size ≤ q := fun _ h => h
  have hS : va_S (fun q => s.heap.size ≤ q) s.heap s.heap [] := va_S.rf
  have hP : va_P D vwCl [] s.heap := va_Pnil
  have hl := lv_entry ([.int x]) (n := 1) (Nat.le_of_ble_eq_true rfl)
  rw [lg_entry_eq]
  generalize (lg_sl ([.int x]) ++ List.replicate (1 - (lg_sl ([.int x])).length) Slot.unset).toArray = ls at hl ⊢
  have hl : lv_has ls 1 [(0, .int x)] := hl
  refine lv_iload_n hx hb dX0_orNotFound_0 rfl (lv_at hl 0 rfl) ?_
  refine lv_iconst (v := (-1)) hx hb dX0_orNotFound_1 (by decide) ?_
  refine lv_icmp_ne (tgt := 10) hx hb dX0_orNotFound_2 (by decide) (fun c_1 => ?_) (fun c_1 => ?_)
  · refine lv_iload_n hx hb dX0_orNotFound_10 rfl (lv_at hl 0 rfl) ?_
    exact z_iret (v := x) hx hb hr hS (by unfold oNF; rw [if_neg c_1] <;> rfl) (by omega) (by omega) dX0_orNotFound_11
  · refine lv_ldc (v := (-1000004)) hx hb hown (hts _ q962) dX0_orNotFound_5 ?_
    refine lv_goto (tgt := 11) hx hb dX0_orNotFound_7 (by decide) ?_
    exact z_iret (v := (-1000004)) hx hb hr hS (by unfold oNF; rw [if_pos c_1] <;> rfl) (by omega) (by omega) dX0_orNotFound_11

set_option maxHeartbeats 4000000 in
set_option maxRecDepth 100000 in
theorem mX0_isFence (l : Launch) (D : va_G) (dA : Nat → ClassId) (ad : Nat → Nat) (sz : Nat) (xx : Nat) (st : Nat) (dq : Nat) (sb : Nat) (f : Nat → Int32) (M : Nat) (fe : Int32) (hB : InvB f M) : Met l yX0_isFence (ws_ yX0_isFence cX0_isFence 2 (some .boolean)) ({ frames := 3, cells := 0, slots := 0, locals := 80 }) (va_Pc [.ref xx, .int fe] (zP D dA ad (fun q => sz ≤ q) sz (fun H => va_P D vwCl [(xx, .inr (0, [.ref st, .ref dq, .ref sb]))] H ∧ SR D dA (fun q => sz ≤ q) f st H))) (zQi (fun rz H => rz = bI (nI 0 ≤ fe ∧ fe ≤ f 0)) (fun q => sz ≤ q)) (0) (0) (fun q => sz ≤ q) := by
  refine Met.ofW (cc := cX0_isFence) (maxL := 2) (ret := (some .boolean)) (by decide) rfl ?_
  intro p e s m args below meth c s₁ B hml hv
  obtain ⟨rfl, hsz, hC, hP⟩ := hv
  have hx := B.exec
  have hb := B.bytes
  have hr := B.returns
  have hts := atoms_spec (ws := ws_ yX0_isFence cX0_isFence 2 (some .boolean)) B.pre
  have hts : ∀ w ∈ lw_all, w.before _ s = true := fun w h => hts w (List.mem_cons_of_mem _ h)
  have hown : s.vm.findClass RX0 = some m.cls := findClass_of_methodNamed B.named
  have hlocks := B.notSynchronized
  subst hsz
  have hK := hC.K
  have hA : ∀ q : Nat, s.heap.size ≤ q → s.heap.size ≤ q := fun _ h => h
  have hS : va_S (fun q => s.heap.size ≤ q) s.heap s.heap [] := va_S.rf
  obtain ⟨hP, hP2⟩ := hP
  have hP : va_P D vwCl [(xx, .inr (0, [.ref st, .ref dq, .ref sb]))] s.heap := hP
  have hl := lv_entry ([.ref xx, .int fe]) (n := 2) (Nat.le_of_ble_eq_true rfl)
  rw [lg_entry_eq]
  generalize (lg_sl ([.ref xx, .int fe]) ++ List.replicate (2 - (lg_sl ([.ref xx, .int fe])).length) Slot.unset).toArray = ls at hl ⊢
  have hl : lv_has ls 2 [(0, .ref xx), (1, .int fe)] := hl
  obtain ⟨jo, slo, sao, seo, alo, mco, aeo, h, t0, c0, d0, e0, W0, t1, c1, d1, e1, W1, hZS, hP2, hh0, hh1, hW0, hW1, hgp0, hgp1⟩ := hP2
  have hI := hB.a
  have hn9 := hI.2.1
  obtain ⟨qa0, qb0, qc0, qd0⟩ := InvA_ap hI (b := 0) (by omega)
  obtain ⟨qa1, qb1, qc1, qd1⟩ := InvA_ap hI (b := 1) (by omega)
  obtain ⟨hac0, ha0⟩ := hB.ac (b := 0) (by omega)
  obtain ⟨hac1, ha1⟩ := hB.ac (b := 1) (by omega)
  have hP := hP.app hZS.1
  have hP : va_P D vwCl [(xx, .inr (0, [.ref st, .ref dq, .ref sb])), (st, .inr (1, [.ref jo, .ref slo, .ref sao, .ref seo, .int (f 1), .int (f 2), .int (f 3), .int (f 4), .int (f 5), .int (f 6)])), (jo, .inr (2, [.ref alo])), (alo, .inr (9, [.int mco, .ref aeo, .int (nI (rN f))])), (slo, .inl (dA 0, 3, .inl (slF f))), (sao, .inl (dA 4, 2, .inr (.inr (.inr (.inr h))))), (seo, .inl (dA 0, 2, .inl (seF f))), (t0, .inr (3, [.int (nI (rcN f 0)), .int (nI (apN f 0)), .ref c0, .int (nI (acN f 0))])), (c0, .inr (10, [.ref d0, .int (nI (uOf W0)), .int e0])), (d0, .inl (dA 1, 2, .inr (.inl (lwd W0)))), (t1, .inr (3, [.int (nI (rcN f 1)), .int (nI (apN f 1)), .ref c1, .int (nI (acN f 1))])), (c1, .inr (10, [.ref d1, .int (nI (uOf W1)), .int e1])), (d1, .inl (dA 1, 2, .inr (.inl (lwd W1))))] s.heap := hP
  refine lv_iload_n hx hb dX0_isFence_0 rfl (lv_at hl 1 rfl) ?_
  refine lv_i2l (v := (fe).toInt64) hx hb dX0_isFence_1 (rfl) ?_
  refine lv_lconst (v := lN (0)) hx hb dX0_isFence_2 (by decide) ?_
  refine lv_aload_n hx hb dX0_isFence_3 rfl (lv_at hl 0 rfl) ?_
  refine va_get (D := D) (ci := 0) (v := .ref st) (C := RX0) (T := TX0) (N := 3) hx hb hts in_X0 hown hK hP 0 rfl rfl 0 (by decide) (hts _ q284) (fun _ h9 => h9) rfl dX0_isFence_4 ?_
  refine va_getN (D := D) (ci := 1) (v := .ref jo) (C := RX1) (T := TX1) (N := 10) hx hb hts in_X1 hown hK hP 1 rfl rfl 0 (by decide) (Cx.nF hC (List.mem_of_getElem? (i := 5) rfl)) (fun _ h9 => h9) rfl dX0_isFence_7 ?_
  refine z_cVi (As := []) (rest := [.long (lN (0)), .long ((fe).toInt64)]) ⟨hx, hb, hml, hown, hts⟩ (mX2_size l D dA ad s.heap.size jo alo mco aeo (rN f)) (cwV 0 hts (lw_V q926 q637 q638 q56 q639) rfl rfl rfl (by decide +kernel) ⟨Nat.le_of_ble_eq_true rfl, Nat.le_of_ble_eq_true rfl⟩) hC hS (fun _ h => hA _ (Nat.le_trans hS.1 h)) (hP.sub (ws' := [(jo, .inr (2, [.ref alo])), (alo, .inr (9, [.int mco, .ref aeo, .int (nI (rN f))]))]) [2, 3] rfl) (va_recv hK hP (ci := 2) (q0 := 2) rfl rfl) rfl rfl hl.1 (Nat.le_of_ble_eq_true rfl) dX0_isFence_10 ⟨Nat.le_of_ble_eq_true rfl, Nat.le_of_ble_eq_true rfl⟩ (fun r_1 H locs hQ hF hS => ?_)
  have hP := va_P.ro hF hP
  obtain rfl : nI ((rN f)) = r_1 := hQ.symm
  refine lv_i2l (v := lN ((rN f))) hx hb dX0_isFence_13 (nI_l (by omega)) ?_
  refine z_cSi (As := [.long ((fe).toInt64), .long (lN (0)), .long (lN ((rN f)))]) (rest := []) ⟨hx, hb, hml, hown, hts⟩ (mX0_isBetween l D dA ad H.size ((fe).toInt64) (lN (0)) (lN ((rN f)))) (va_cwS 3 hts (lw_S q457 q458 q54 q459) rfl rfl rfl (by decide +kernel) ⟨Nat.le_of_ble_eq_true rfl, Nat.le_of_ble_eq_true rfl⟩) hC hS (fun _ h => hA _ (Nat.le_trans hS.1 h)) trivial rfl rfl hl.1 (Nat.le_of_ble_eq_true rfl) dX0_isFence_14 ⟨Nat.le_of_ble_eq_true rfl, Nat.le_of_ble_eq_true rfl⟩ (fun r_2 H locs hQ hF hS => ?_)
  have hP := va_P.ro hF hP
  obtain rfl : bI ((lN (0)) ≤ ((fe).toInt64) ∧ ((fe).toInt64) ≤ (lN ((rN f)))) = r_2 := hQ.symm
  exact z_zret (v := bI ((lN (0)) ≤ ((fe).toInt64) ∧ ((fe).toInt64) ≤ (lN ((rN f))))) hx hb hr (bI_nar) hS (by rw [hI.1]; exact btw_ok (by decide) (by omega)) (by omega) (by omega) dX0_isFence_17

set_option maxHeartbeats 4000000 in
set_option maxRecDepth 100000 in
theorem mX0_read (l : Launch) (D : va_G) (dA : Nat → ClassId) (ad : Nat → Nat) (sz : Nat) (xx : Nat) (st : Nat) (dq : Nat) (sb : Nat) (f : Nat → Int32) (M : Nat) (i : Int32) (ky : Int32) (fe : Int32) (hB : InvB f M) : Met l yX0_read (ws_ yX0_read cX0_read 5 (some .int)) ({ frames := 7, cells := 0, slots := 0, locals := 230 }) (va_Pc [.ref xx, .int i, .int ky, .int fe] (zP D dA ad (fun q => sz ≤ q) sz (fun H => va_P D vwCl [(xx, .inr (0, [.ref st, .ref dq, .ref sb]))] H ∧ SR D dA (fun q => sz ≤ q) f st H))) (zQi (fun rz H => rz = aRead f i ky fe) (fun q => sz ≤ q)) (0) (0) (fun q => sz ≤ q) := by
  refine Met.ofW (cc := cX0_read) (maxL := 5) (ret := (some .int)) (by decide) rfl ?_
  intro p e s m args below meth c s₁ B hml hv
  obtain ⟨rfl, hsz, hC, hP⟩ := hv
  have hx := B.exec
  have hb := B.bytes
  have hr := B.returns
  have hts := atoms_spec (ws := ws_ yX0_read cX0_read 5 (some .int)) B.pre
  have hts : ∀ w ∈ lw_all, w.before _ s = true := fun w h => hts w (List.mem_cons_of_mem _ h)
  have hown : s.vm.findClass RX0 = some m.cls := findClass_of_methodNamed B.named
  have hlocks := B.notSynchronized
  subst hsz
  have hK := hC.K
  have hA : ∀ q : Nat, s.heap.size ≤ q → s.heap.size ≤ q := fun _ h => h
  have hS : va_S (fun q => s.heap.size ≤ q) s.heap s.heap [] := va_S.rf
  obtain ⟨hP, hP2⟩ := hP
  have hP : va_P D vwCl [(xx, .inr (0, [.ref st, .ref dq, .ref sb]))] s.heap := hP
  have hl := lv_entry ([.ref xx, .int i, .int ky, .int fe]) (n := 5) (Nat.le_of_ble_eq_true rfl)
  rw [lg_entry_eq]
  generalize (lg_sl ([.ref xx, .int i, .int ky, .int fe]) ++ List.replicate (5 - (lg_sl ([.ref xx, .int i, .int ky, .int fe])).length) Slot.unset).toArray = ls at hl ⊢
  have hl : lv_has ls 5 [(0, .ref xx), (1, .int i), (2, .int ky), (3, .int fe)] := hl
  obtain ⟨jo, slo, sao, seo, alo, mco, aeo, h, t0, c0, d0, e0, W0, t1, c1, d1, e1, W1, hZS, hP2, hh0, hh1, hW0, hW1, hgp0, hgp1⟩ := hP2
  have hI := hB.a
  have hn9 := hI.2.1
  obtain ⟨qa0, qb0, qc0, qd0⟩ := InvA_ap hI (b := 0) (by omega)
  obtain ⟨qa1, qb1, qc1, qd1⟩ := InvA_ap hI (b := 1) (by omega)
  obtain ⟨hac0, ha0⟩ := hB.ac (b := 0) (by omega)
  obtain ⟨hac1, ha1⟩ := hB.ac (b := 1) (by omega)
  have hP := hP.app hZS.1
  have hP : va_P D vwCl [(xx, .inr (0, [.ref st, .ref dq, .ref sb])), (st, .inr (1, [.ref jo, .ref slo, .ref sao, .ref seo, .int (f 1), .int (f 2), .int (f 3), .int (f 4), .int (f 5), .int (f 6)])), (jo, .inr (2, [.ref alo])), (alo, .inr (9, [.int mco, .ref aeo, .int (nI (rN f))])), (slo, .inl (dA 0, 3, .inl (slF f))), (sao, .inl (dA 4, 2, .inr (.inr (.inr (.inr h))))), (seo, .inl (dA 0, 2, .inl (seF f))), (t0, .inr (3, [.int (nI (rcN f 0)), .int (nI (apN f 0)), .ref c0, .int (nI (acN f 0))])), (c0, .inr (10, [.ref d0, .int (nI (uOf W0)), .int e0])), (d0, .inl (dA 1, 2, .inr (.inl (lwd W0)))), (t1, .inr (3, [.int (nI (rcN f 1)), .int (nI (apN f 1)), .ref c1, .int (nI (acN f 1))])), (c1, .inr (10, [.ref d1, .int (nI (uOf W1)), .int e1])), (d1, .inl (dA 1, 2, .inr (.inl (lwd W1))))] s.heap := hP
  refine lv_iload_n hx hb dX0_read_0 rfl (lv_at hl 1 rfl) ?_
  refine z_cSi (As := [.int i]) (rest := []) ⟨hx, hb, hml, hown, hts⟩ (mX0_isStandby l D dA ad s.heap.size i) (va_cwS 1 hts (lw_S q542 q543 q54 q544) rfl rfl rfl (by decide +kernel) ⟨Nat.le_of_ble_eq_true rfl, Nat.le_of_ble_eq_true rfl⟩) hC hS (fun _ h => hA _ (Nat.le_trans hS.1 h)) trivial rfl rfl hl.1 (Nat.le_of_ble_eq_true rfl) dX0_read_1 ⟨Nat.le_of_ble_eq_true rfl, Nat.le_of_ble_eq_true rfl⟩ (fun r_1 H locs hQ hF hS => ?_)
  have hP := va_P.ro hF hP
  obtain rfl : bI (nI 0 ≤ i ∧ i ≤ nI 1) = r_1 := hQ.symm
  refine lv_if_eq (tgt := 22) hx hb dX0_read_4 (by decide) (fun c_2 => ?_) (fun c_2 => ?_)
  · have c_2 := bI_0.1 c_2
    refine lv_ldc (v := (-1000001)) hx hb hown (hts _ q592) dX0_read_22 ?_
    exact z_iret (v := (-1000001)) hx hb hr hS (by unfold aRead; rw [if_neg c_2]) (by omega) (by omega) dX0_read_24
  · have c_2 := bI_1.1 c_2
    refine lv_iload_n hx hb dX0_read_7 rfl (lv_at hl 2 rfl) ?_
    refine z_cSi (As := [.int ky]) (rest := []) ⟨hx, hb, hml, hown, hts⟩ (mX0_isKey l D dA ad H.size ky) (va_cwS 1 hts (lw_S q549 q550 q54 q551) rfl rfl rfl (by decide +kernel) ⟨Nat.le_of_ble_eq_true rfl, Nat.le_of_ble_eq_true rfl⟩) hC hS (fun _ h => hA _ (Nat.le_trans hS.1 h)) trivial rfl rfl hl.1 (Nat.le_of_ble_eq_true rfl) dX0_read_8 ⟨Nat.le_of_ble_eq_true rfl, Nat.le_of_ble_eq_true rfl⟩ (fun r_3 H locs hQ hF hS => ?_)
    have hP := va_P.ro hF hP
    obtain rfl : bI (nI 0 ≤ ky ∧ ky ≤ nI 23) = r_3 := hQ.symm
    refine lv_if_eq (tgt := 22) hx hb dX0_read_11 (by decide) (fun c_4 => ?_) (fun c_4 => ?_)
    · have c_4 := bI_0.1 c_4
      refine lv_ldc (v := (-1000001)) hx hb hown (hts _ q592) dX0_read_22 ?_
      exact z_iret (v := (-1000001)) hx hb hr hS (by unfold aRead; rw [if_pos c_2, if_neg c_4]) (by omega) (by omega) dX0_read_24
    · have c_4 := bI_1.1 c_4
      refine lv_aload_n hx hb dX0_read_14 rfl (lv_at hl 0 rfl) ?_
      refine lv_iload_n hx hb dX0_read_15 rfl (lv_at hl 3 rfl) ?_
      refine z_cVi (As := [.int fe]) (rest := []) ⟨hx, hb, hml, hown, hts⟩ (mX0_isFence l D dA ad H.size xx st dq sb f M fe (hB)) (cwV 1 hts (lw_V q922 q924 qs18 q54 q925) rfl rfl rfl (by decide +kernel) ⟨Nat.le_of_ble_eq_true rfl, Nat.le_of_ble_eq_true rfl⟩) hC hS (fun _ h => hA _ (Nat.le_trans hS.1 h)) ⟨(hP.sub (ws' := [(xx, .inr (0, [.ref st, .ref dq, .ref sb]))]) [0] rfl), (SR.kept ⟨jo, slo, sao, seo, alo, mco, aeo, h, t0, c0, d0, e0, W0, t1, c1, d1, e1, W1, hZS, hP2, hh0, hh1, hW0, hW1, hgp0, hgp1⟩ hS).ro⟩ (va_recv hK hP (ci := 0) (q0 := 0) rfl rfl) rfl rfl hl.1 (Nat.le_of_ble_eq_true rfl) dX0_read_16 ⟨Nat.le_of_ble_eq_true rfl, Nat.le_of_ble_eq_true rfl⟩ (fun r_5 H locs hQ hF hS => ?_)
      have hP := va_P.ro hF hP
      obtain rfl : bI (nI 0 ≤ fe ∧ fe ≤ f 0) = r_5 := hQ.symm
      refine lv_if_ne (tgt := 25) hx hb dX0_read_19 (by decide) (fun c_6 => ?_) (fun c_6 => ?_)
      · have c_6 := bI_1.1 c_6
        obtain ⟨kf, hkf, rfl⟩ := zr_of (k := fe) (N := rN f) ⟨c_6.1, by rw [← hI.1]; exact c_6.2⟩ (by omega)
        obtain ⟨j9, hj9, rfl⟩ := zr_of (k := i) (N := 1) c_2 (by decide)
        rcases (show j9 = 0 ∨ j9 = 1 by omega) with rfl | rfl
        · refine lv_aload_n hx hb dX0_read_25 rfl (lv_at hl 0 rfl) ?_
          refine va_get (D := D) (ci := 0) (v := .ref st) (C := RX0) (T := TX0) (N := 3) hx hb hts in_X0 hown hK hP 0 rfl rfl 0 (by decide) (hts _ q284) (fun _ h9 => h9) rfl dX0_read_26 ?_
          refine va_getN (D := D) (ci := 1) (v := .ref sao) (C := RX1) (T := TX1) (N := 10) hx hb hts in_X1 hown hK hP 1 rfl rfl 2 (by decide) (Cx.nF hC (List.mem_of_getElem? (i := 7) rfl)) (fun _ h9 => h9) rfl dX0_read_29 ?_
          refine lv_iload_n hx hb dX0_read_32 rfl (lv_at hl 1 rfl) ?_
          refine va_aldq hx hb hK hP 5 4 rfl rfl (vp_in_nI (by omega) (by omega)) dX0_read_33 ?_
          refine lv_topv (y := .ref t0) (by rw [nI_clamp (by omega)]; rw [hh0]; rfl) ?_
          refine lv_astore (lv' := [(4, .ref t0), (0, .ref xx), (1, .int (nI (0))), (2, .int ky), (3, .int (nI (kf)))]) hx hb dX0_read_34 hl (by decide) rfl (fun ls hl => ?_)
          refine lv_aload hx hb dX0_read_36 (lv_at hl 0 rfl) ?_
          refine lv_iload_n hx hb dX0_read_38 rfl (lv_at hl 4 rfl) ?_
          refine z_cVi (As := [.int (nI (kf))]) (rest := []) ⟨hx, hb, hml, hown, hts⟩ (mX3_canServe l D dA ad H.size t0 (nI (rcN f 0)) (apN f 0) (acN f 0) c0 kf (by omega) (by omega) (by omega)) (cwV 1 hts (lw_V q927 q928 q929 q60 q930) rfl rfl rfl (by decide +kernel) ⟨Nat.le_of_ble_eq_true rfl, Nat.le_of_ble_eq_true rfl⟩) hC hS (fun _ h => hA _ (Nat.le_trans hS.1 h)) (hP.sub (ws' := [(t0, .inr (3, [.int (nI (rcN f 0)), .int (nI (apN f 0)), .ref c0, .int (nI (acN f 0))]))]) [7] rfl) (va_recv hK hP (ci := 3) (q0 := 7) rfl rfl) rfl rfl hl.1 (Nat.le_of_ble_eq_true rfl) dX0_read_39 ⟨Nat.le_of_ble_eq_true rfl, Nat.le_of_ble_eq_true rfl⟩ (fun r_7 H locs hQ hF hS => ?_)
          have hP := va_P.ro hF hP
          obtain rfl : bI ((acN f 0) = 0 ∧ kf ≤ (apN f 0)) = r_7 := hQ.symm
          refine lv_if_eq (tgt := 61) hx hb dX0_read_42 (by decide) (fun c_8 => ?_) (fun c_8 => ?_)
          · have c_8 := bI_0.1 c_8
            refine lv_ldc (v := (-1000002)) hx hb hown (hts _ q947) dX0_read_61 ?_
            exact z_iret (v := (-1000002)) hx hb hr hS (by unfold aRead; rw [if_pos c_2, if_pos c_4, if_pos c_6, nI_clamp (by omega), if_neg (fun q => c_8 ((aCan_iff hB (by omega) (by omega)).1 q))]) (by omega) (by omega) dX0_read_63
          · have c_8 := bI_1.1 c_8
            refine lv_aload_n hx hb dX0_read_45 rfl (lv_at hl 1 rfl) ?_
            refine va_get (D := D) (ci := 0) (v := .ref st) (C := RX0) (T := TX0) (N := 3) hx hb hts in_X0 hown hK hP 0 rfl rfl 0 (by decide) (hts _ q284) (fun _ h9 => h9) rfl dX0_read_46 ?_
            refine lv_iload_n hx hb dX0_read_49 rfl (lv_at hl 3 rfl) ?_
            refine lv_aload hx hb dX0_read_50 (lv_at hl 0 rfl) ?_
            refine va_getN (D := D) (ci := 3) (v := .int (nI (apN f 0))) (C := RX3) (T := TX3) (N := 4) hx hb hts in_X3 hown hK hP 7 rfl rfl 1 (by decide) (Cx.nF hC (List.mem_of_getElem? (i := 2) rfl)) (fun _ h9 => h9) rfl dX0_read_52 ?_
            refine z_cVi (As := [.int ky, .int (nI (apN f 0))]) (rest := []) ⟨hx, hb, hml, hown, hts⟩ (mX1_value l D dA ad H.size st jo slo sao seo (f 1) (f 2) (f 3) (f 4) (f 5) (f 6) alo mco aeo (rN f) f ky (apN f 0) (by omega)) (cwV 2 hts (lw_V q931 q932 q933 q55 q934) rfl rfl rfl (by decide +kernel) ⟨Nat.le_of_ble_eq_true rfl, Nat.le_of_ble_eq_true rfl⟩) hC hS (fun _ h => hA _ (Nat.le_trans hS.1 h)) ⟨(hP.sub (ws' := [(st, .inr (1, [.ref jo, .ref slo, .ref sao, .ref seo, .int (f 1), .int (f 2), .int (f 3), .int (f 4), .int (f 5), .int (f 6)])), (jo, .inr (2, [.ref alo])), (alo, .inr (9, [.int mco, .ref aeo, .int (nI (rN f))]))]) [1, 2, 3] rfl), (hP2.kept hS).ro⟩ (va_recv hK hP (ci := 1) (q0 := 1) rfl rfl) rfl rfl hl.1 (Nat.le_of_ble_eq_true rfl) dX0_read_55 ⟨Nat.le_of_ble_eq_true rfl, Nat.le_of_ble_eq_true rfl⟩ (fun r_9 H locs hQ hF hS => ?_)
            have hP := va_P.ro hF hP
            obtain rfl : vlC f ky (apN f 0) = r_9 := hQ.symm
            refine lv_goto (tgt := 63) hx hb dX0_read_58 (by decide) ?_
            exact z_iret (v := vlC f ky (apN f 0)) hx hb hr hS (by unfold aRead; rw [if_pos c_2, if_pos c_4, if_pos c_6, nI_clamp (by omega), if_pos ((aCan_iff hB (by omega) (by omega)).2 c_8)]; exact vlC_eq hB _ (by omega)) (by omega) (by omega) dX0_read_63
        · refine lv_aload_n hx hb dX0_read_25 rfl (lv_at hl 0 rfl) ?_
          refine va_get (D := D) (ci := 0) (v := .ref st) (C := RX0) (T := TX0) (N := 3) hx hb hts in_X0 hown hK hP 0 rfl rfl 0 (by decide) (hts _ q284) (fun _ h9 => h9) rfl dX0_read_26 ?_
          refine va_getN (D := D) (ci := 1) (v := .ref sao) (C := RX1) (T := TX1) (N := 10) hx hb hts in_X1 hown hK hP 1 rfl rfl 2 (by decide) (Cx.nF hC (List.mem_of_getElem? (i := 7) rfl)) (fun _ h9 => h9) rfl dX0_read_29 ?_
          refine lv_iload_n hx hb dX0_read_32 rfl (lv_at hl 1 rfl) ?_
          refine va_aldq hx hb hK hP 5 4 rfl rfl (vp_in_nI (by omega) (by omega)) dX0_read_33 ?_
          refine lv_topv (y := .ref t1) (by rw [nI_clamp (by omega)]; rw [hh1]; rfl) ?_
          refine lv_astore (lv' := [(4, .ref t1), (0, .ref xx), (1, .int (nI (1))), (2, .int ky), (3, .int (nI (kf)))]) hx hb dX0_read_34 hl (by decide) rfl (fun ls hl => ?_)
          refine lv_aload hx hb dX0_read_36 (lv_at hl 0 rfl) ?_
          refine lv_iload_n hx hb dX0_read_38 rfl (lv_at hl 4 rfl) ?_
          refine z_cVi (As := [.int (nI (kf))]) (rest := []) ⟨hx, hb, hml, hown, hts⟩ (mX3_canServe l D dA ad H.size t1 (nI (rcN f 1)) (apN f 1) (acN f 1) c1 kf (by omega) (by omega) (by omega)) (cwV 1 hts (lw_V q927 q928 q929 q60 q930) rfl rfl rfl (by decide +kernel) ⟨Nat.le_of_ble_eq_true rfl, Nat.le_of_ble_eq_true rfl⟩) hC hS (fun _ h => hA _ (Nat.le_trans hS.1 h)) (hP.sub (ws' := [(t1, .inr (3, [.int (nI (rcN f 1)), .int (nI (apN f 1)), .ref c1, .int (nI (acN f 1))]))]) [10] rfl) (va_recv hK hP (ci := 3) (q0 := 10) rfl rfl) rfl rfl hl.1 (Nat.le_of_ble_eq_true rfl) dX0_read_39 ⟨Nat.le_of_ble_eq_true rfl, Nat.le_of_ble_eq_true rfl⟩ (fun r_10 H locs hQ hF hS => ?_)
          have hP := va_P.ro hF hP
          obtain rfl : bI ((acN f 1) = 0 ∧ kf ≤ (apN f 1)) = r_10 := hQ.symm
          refine lv_if_eq (tgt := 61) hx hb dX0_read_42 (by decide) (fun c_11 => ?_) (fun c_11 => ?_)
          · have c_11 := bI_0.1 c_11
            refine lv_ldc (v := (-1000002)) hx hb hown (hts _ q947) dX0_read_61 ?_
            exact z_iret (v := (-1000002)) hx hb hr hS (by unfold aRead; rw [if_pos c_2, if_pos c_4, if_pos c_6, nI_clamp (by omega), if_neg (fun q => c_11 ((aCan_iff hB (by omega) (by omega)).1 q))]) (by omega) (by omega) dX0_read_63
          · have c_11 := bI_1.1 c_11
            refine lv_aload_n hx hb dX0_read_45 rfl (lv_at hl 1 rfl) ?_
            refine va_get (D := D) (ci := 0) (v := .ref st) (C := RX0) (T := TX0) (N := 3) hx hb hts in_X0 hown hK hP 0 rfl rfl 0 (by decide) (hts _ q284) (fun _ h9 => h9) rfl dX0_read_46 ?_
            refine lv_iload_n hx hb dX0_read_49 rfl (lv_at hl 3 rfl) ?_
            refine lv_aload hx hb dX0_read_50 (lv_at hl 0 rfl) ?_
            refine va_getN (D := D) (ci := 3) (v := .int (nI (apN f 1))) (C := RX3) (T := TX3) (N := 4) hx hb hts in_X3 hown hK hP 10 rfl rfl 1 (by decide) (Cx.nF hC (List.mem_of_getElem? (i := 2) rfl)) (fun _ h9 => h9) rfl dX0_read_52 ?_
            refine z_cVi (As := [.int ky, .int (nI (apN f 1))]) (rest := []) ⟨hx, hb, hml, hown, hts⟩ (mX1_value l D dA ad H.size st jo slo sao seo (f 1) (f 2) (f 3) (f 4) (f 5) (f 6) alo mco aeo (rN f) f ky (apN f 1) (by omega)) (cwV 2 hts (lw_V q931 q932 q933 q55 q934) rfl rfl rfl (by decide +kernel) ⟨Nat.le_of_ble_eq_true rfl, Nat.le_of_ble_eq_true rfl⟩) hC hS (fun _ h => hA _ (Nat.le_trans hS.1 h)) ⟨(hP.sub (ws' := [(st, .inr (1, [.ref jo, .ref slo, .ref sao, .ref seo, .int (f 1), .int (f 2), .int (f 3), .int (f 4), .int (f 5), .int (f 6)])), (jo, .inr (2, [.ref alo])), (alo, .inr (9, [.int mco, .ref aeo, .int (nI (rN f))]))]) [1, 2, 3] rfl), (hP2.kept hS).ro⟩ (va_recv hK hP (ci := 1) (q0 := 1) rfl rfl) rfl rfl hl.1 (Nat.le_of_ble_eq_true rfl) dX0_read_55 ⟨Nat.le_of_ble_eq_true rfl, Nat.le_of_ble_eq_true rfl⟩ (fun r_12 H locs hQ hF hS => ?_)
            have hP := va_P.ro hF hP
            obtain rfl : vlC f ky (apN f 1) = r_12 := hQ.symm
            refine lv_goto (tgt := 63) hx hb dX0_read_58 (by decide) ?_
            exact z_iret (v := vlC f ky (apN f 1)) hx hb hr hS (by unfold aRead; rw [if_pos c_2, if_pos c_4, if_pos c_6, nI_clamp (by omega), if_pos ((aCan_iff hB (by omega) (by omega)).2 c_11)]; exact vlC_eq hB _ (by omega)) (by omega) (by omega) dX0_read_63
      · have c_6 := bI_0.1 c_6
        refine lv_ldc (v := (-1000001)) hx hb hown (hts _ q592) dX0_read_22 ?_
        exact z_iret (v := (-1000001)) hx hb hr hS (by unfold aRead; rw [if_pos c_2, if_pos c_4, if_neg c_6]) (by omega) (by omega) dX0_read_24
