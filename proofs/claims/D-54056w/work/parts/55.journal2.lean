set_option maxHeartbeats 4000000 in
set_option maxRecDepth 100000 in
theorem mX2_cut (l : Launch) (D : va_G) (dA : Nat → ClassId) (ad : Nat → Nat) (A : Nat → Prop) (sz : Nat) (jn : Nat) (al : Nat) (mc : Int32) (ae : Nat) (n : Nat) (cap : Nat) (g : Nat → Option Nat) (k : Nat) (hA : ∀ q, sz ≤ q → A q) (h1 : k ≤ n) (h2 : n ≤ cap) (h3 : cap ≤ 10000) (hD : va_D A [(jn, .inr (2, [.ref al])), (al, .inr (9, [.int mc, .ref ae, .int (nI (n))])), (ae, .inl (dA 3, cap, .inr (.inr (.inr (.inr g)))))]) : Met l yX2_cut (ws_ yX2_cut cX2_cut 3 none) ({ frames := 3, cells := 0, slots := 0, locals := 90 }) (va_Pc [.ref jn, .int (nI (k))] (zP D dA ad A sz (fun H => va_P D vwCl [(jn, .inr (2, [.ref al])), (al, .inr (9, [.int mc, .ref ae, .int (nI (n))])), (ae, .inl (dA 3, cap, .inr (.inr (.inr (.inr g)))))] H ∧ NtG D A g n H))) (zQv (fun H => True ∧ va_P D vwCl [(jn, .inr (2, [.ref al])), (al, .inr (9, [.int (mc + nI (n - k)), .ref ae, .int (nI (k))])), (ae, .inl (dA 3, cap, .inr (.inr (.inr (.inr (cutG g n k))))))] H) A) (0) (0) A := by
  refine Met.ofW (cc := cX2_cut) (maxL := 3) (ret := none) (by decide) rfl ?_
  intro p e s m args below meth c s₁ B hml hv
  obtain ⟨rfl, hsz, hC, hP⟩ := hv
  have hx := B.exec
  have hb := B.bytes
  have hr := B.returns
  have hts := atoms_spec (ws := ws_ yX2_cut cX2_cut 3 none) B.pre
  have hts : ∀ w ∈ lw_all, w.before _ s = true := fun w h => hts w (List.mem_cons_of_mem _ h)
  have hown : s.vm.findClass RX2 = some m.cls := findClass_of_methodNamed B.named
  have hlocks := B.notSynchronized
  subst hsz
  have hK := hC.K
  have hS : va_S A s.heap s.heap [] := va_S.rf
  obtain ⟨hP, hP2⟩ := hP
  have hP : va_P D vwCl [(jn, .inr (2, [.ref al])), (al, .inr (9, [.int mc, .ref ae, .int (nI (n))])), (ae, .inl (dA 3, cap, .inr (.inr (.inr (.inr g)))))] s.heap := hP
  have hl := lv_entry ([.ref jn, .int (nI (k))]) (n := 3) (Nat.le_of_ble_eq_true rfl)
  rw [lg_entry_eq]
  generalize (lg_sl ([.ref jn, .int (nI (k))]) ++ List.replicate (3 - (lg_sl ([.ref jn, .int (nI (k))])).length) Slot.unset).toArray = ls at hl ⊢
  have hl : lv_has ls 3 [(0, .ref jn), (1, .int (nI (k)))] := hl
  refine z_loop (σ := Nat) (fun x => x) (fun x H locs ls => va_P D vwCl [(jn, .inr (2, [.ref al])), (al, .inr (9, [.int (mc + nI (n - x)), .ref ae, .int (nI (x))])), (ae, .inl (dA 3, cap, .inr (.inr (.inr (.inr (cutG g n x))))))] H ∧ va_D A [(jn, .inr (2, [.ref al])), (al, .inr (9, [.int (mc + nI (n - x)), .ref ae, .int (nI (x))])), (ae, .inl (dA 3, cap, .inr (.inr (.inr (.inr (cutG g n x))))))] ∧ va_S A s.heap H locs ∧ lv_has ls 3 [(0, .ref jn), (1, .int (nI (k)))] ∧ k ≤ x ∧ x ≤ n) (n) ⟨(by rw [cutM0, cutG_0]; exact hP), hD.same rfl, hS, (lv_sub (l' := [(0, .ref jn), (1, .int (nI (k)))]) hl [0, 1] rfl), by omega, by omega⟩ ?_
  intro x H locs ls ⟨hP, hD, hS, hl, hx1, hx2⟩ ih_0
  refine lv_aload_n hx hb dX2_cut_0 rfl (lv_at hl 0 rfl) ?_
  refine va_get (D := D) (ci := 2) (v := .ref al) (C := RX2) (T := TX2) (N := 1) hx hb hts in_X2 hown hK hP 0 rfl rfl 0 (by decide) (hts _ q138) (fun _ h9 => h9) rfl dX2_cut_1 ?_
  refine z_cVi (As := []) (rest := []) ⟨hx, hb, hml, hown, hts⟩ (mJ2_size l D dA ad H.size al (mc + nI (n - x)) ae (nI (x))) (cwV 0 hts (lw_V q640 q641 q642 q59 q643) rfl rfl rfl (by decide +kernel) ⟨Nat.le_of_ble_eq_true rfl, Nat.le_of_ble_eq_true rfl⟩) hC hS (fun _ h => hA _ (Nat.le_trans hS.1 h)) (hP.sub (ws' := [(al, .inr (9, [.int (mc + nI (n - x)), .ref ae, .int (nI (x))]))]) [1] rfl) (va_recv hK hP (ci := 9) (q0 := 1) rfl rfl) rfl rfl hl.1 (Nat.le_of_ble_eq_true rfl) dX2_cut_4 ⟨Nat.le_of_ble_eq_true rfl, Nat.le_of_ble_eq_true rfl⟩ (fun r_1 H locs hQ hF hS => ?_)
  have hP := va_P.ro hF hP
  obtain rfl : (nI (x)) = r_1 := hQ.symm
  refine lv_iload_n hx hb dX2_cut_7 rfl (lv_at hl 1 rfl) ?_
  refine lv_icmp_le (tgt := 34) hx hb dX2_cut_8 (by decide) (fun c_2 => ?_) (fun c_2 => ?_)
  · have c_2 := (nI_leI (by omega) (by omega)).1 c_2
    exact z_vret hx hb hr hS (⟨trivial, by obtain rfl : x = k := (by omega); exact hP⟩) (by omega) (by omega) dX2_cut_34
  · have c_2 := mt (nI_leI (by omega) (by omega)).2 c_2
    refine lv_aload_n hx hb dX2_cut_11 rfl (lv_at hl 0 rfl) ?_
    refine va_get (D := D) (ci := 2) (v := .ref al) (C := RX2) (T := TX2) (N := 1) hx hb hts in_X2 hown hK hP 0 rfl rfl 0 (by decide) (hts _ q138) (fun _ h9 => h9) rfl dX2_cut_12 ?_
    refine lv_aload_n hx hb dX2_cut_15 rfl (lv_at hl 0 rfl) ?_
    refine va_get (D := D) (ci := 2) (v := .ref al) (C := RX2) (T := TX2) (N := 1) hx hb hts in_X2 hown hK hP 0 rfl rfl 0 (by decide) (hts _ q138) (fun _ h9 => h9) rfl dX2_cut_16 ?_
    refine z_cVi (As := []) (rest := [.ref al]) ⟨hx, hb, hml, hown, hts⟩ (mJ2_size l D dA ad H.size al (mc + nI (n - x)) ae (nI (x))) (cwV 0 hts (lw_V q640 q641 q642 q59 q643) rfl rfl rfl (by decide +kernel) ⟨Nat.le_of_ble_eq_true rfl, Nat.le_of_ble_eq_true rfl⟩) hC hS (fun _ h => hA _ (Nat.le_trans hS.1 h)) (hP.sub (ws' := [(al, .inr (9, [.int (mc + nI (n - x)), .ref ae, .int (nI (x))]))]) [1] rfl) (va_recv hK hP (ci := 9) (q0 := 1) rfl rfl) rfl rfl hl.1 (Nat.le_of_ble_eq_true rfl) dX2_cut_19 ⟨Nat.le_of_ble_eq_true rfl, Nat.le_of_ble_eq_true rfl⟩ (fun r_3 H locs hQ hF hS => ?_)
    have hP := va_P.ro hF hP
    obtain rfl : (nI (x)) = r_3 := hQ.symm
    refine lv_iconst (v := nI (1)) hx hb dX2_cut_22 (by decide) ?_
    refine lv_isub hx hb dX2_cut_23 ?_
    refine lv_tope (y := nI (x - 1)) (pk_sub (by omega)) ?_
    obtain ⟨y9, vs9, hy1, hy2, hy3⟩ := hP2 (x - 1) (by omega)
    have hV9 : NtV D A y9 s.heap := ⟨vs9, hy2, hy3⟩
    have hDc := (hD.sub (ws' := [(al, .inr (9, [.int (mc + nI (n - x)), .ref ae, .int (nI (x))])), (ae, .inl (dA 3, cap, .inr (.inr (.inr (.inr (cutG g n x))))))]) [1, 2] (by decide) rfl).self (sz := H.size)
    have hFc := va_free (wc := [(al, .inr (9, [.int (mc + nI (n - x)), .ref ae, .int (nI (x))])), (ae, .inl (dA 3, cap, .inr (.inr (.inr (.inr (cutG g n x))))))]) hD hS hA [1, 2] rfl
    refine z_cVr (As := [.int (nI (x - 1))]) (rest := []) ⟨hx, hb, hml, hown, hts⟩ (mJ2_remove l D dA ad (va_A [(al, .inr (9, [.int (mc + nI (n - x)), .ref ae, .int (nI (x))])), (ae, .inl (dA 3, cap, .inr (.inr (.inr (.inr (cutG g n x))))))] H.size) H.size al (mc + nI (n - x)) ae x cap (cutG g n x) y9 (fun _ h => Or.inr h) (by omega) (by omega) (by omega) (by rw [cutG_lt (by omega)]; exact hy1) hDc) (cwV 1 hts (lw_V q753 q754 q755 q59 q756) rfl rfl rfl (by decide +kernel) ⟨Nat.le_of_ble_eq_true rfl, Nat.le_of_ble_eq_true rfl⟩) hC hS (hFc) (hP.sub (ws' := [(al, .inr (9, [.int (mc + nI (n - x)), .ref ae, .int (nI (x))])), (ae, .inl (dA 3, cap, .inr (.inr (.inr (.inr (cutG g n x))))))]) [1, 2] rfl) (va_recv hK hP (ci := 9) (q0 := 1) rfl rfl) rfl rfl hl.1 (Nat.le_of_ble_eq_true rfl) dX2_cut_24 ⟨Nat.le_of_ble_eq_true rfl, Nat.le_of_ble_eq_true rfl⟩ (fun r_4 H locs hQ hF hS => ?_)
    obtain ⟨hQ, hP1⟩ := hQ
    obtain ⟨hP, hD⟩ := va_join (wr := [(jn, .inr (2, [.ref al]))]) (w1 := [(al, .inr (9, [.int ((mc + nI (n - x)) + nI (1)), .ref ae, .int (nI (x - 1))])), (ae, .inl (dA 3, cap, .inr (.inr (.inr (.inr (va_up (cutG g n x) (x - 1) none))))))]) hP hD [1, 2] [0] rfl rfl (by decide) (by decide) hF.2 hFc hP1 (hDc.same rfl)
    have hP := hP.sub (ws' := [(jn, .inr (2, [.ref al])), (al, .inr (9, [.int ((mc + nI (n - x)) + nI (1)), .ref ae, .int (nI (x - 1))])), (ae, .inl (dA 3, cap, .inr (.inr (.inr (.inr (va_up (cutG g n x) (x - 1) none))))))]) [0, 1, 2] rfl
    have hD := hD.sub (ws' := [(jn, .inr (2, [.ref al])), (al, .inr (9, [.int ((mc + nI (n - x)) + nI (1)), .ref ae, .int (nI (x - 1))])), (ae, .inl (dA 3, cap, .inr (.inr (.inr (.inr (va_up (cutG g n x) (x - 1) none))))))]) [0, 1, 2] (by decide) rfl
    obtain rfl : y9 = r_4 := hQ.symm
    refine va_castY hx hb hown (hts _ q356) (Cx.nC hC (t := ("FencedStandbys$Note", "FencedStandbys$Written")) (List.mem_of_getElem? (i := 17) rfl)) ((hV9.kept hS).recv hC) dX2_cut_27 ?_
    refine lv_astore_n (lv' := [(2, .ref y9), (0, .ref jn), (1, .int (nI (k)))]) hx hb dX2_cut_30 rfl hl (by decide) rfl (fun ls hl => ?_)
    refine lv_goto (tgt := 0) hx hb dX2_cut_31 (by decide) ?_
    exact ih_0 (x - 1) H locs ls ⟨(by rw [← cutG_s (by omega) (by omega), ← cutM (by omega) (by omega)]; exact hP), hD.same rfl, hS, (lv_sub (l' := [(0, .ref jn), (1, .int (nI (k)))]) hl [1, 2] rfl), by omega, by omega⟩ (by omega)

set_option maxHeartbeats 4000000 in
set_option maxRecDepth 100000 in
theorem mX2_cutE (l : Launch) (D : va_G) (dA : Nat → ClassId) (ad : Nat → Nat) (sz : Nat) (jn : Nat) (al : Nat) (mc : Int32) : Met l yX2_cut (ws_ yX2_cut cX2_cut 3 none) ({ frames := 3, cells := 0, slots := 0, locals := 90 }) (va_Pc [.ref jn, .int (nI (0))] (zP D dA ad (fun q => sz ≤ q) sz (fun H => va_P D vwCl [(jn, .inr (2, [.ref al])), (al, .inr (9, [.int mc, .ref (ad 0), .int (nI (0))]))] H))) (zQv (fun H => True) (fun q => sz ≤ q)) (0) (0) (fun q => sz ≤ q) := by
  refine Met.ofW (cc := cX2_cut) (maxL := 3) (ret := none) (by decide) rfl ?_
  intro p e s m args below meth c s₁ B hml hv
  obtain ⟨rfl, hsz, hC, hP⟩ := hv
  have hx := B.exec
  have hb := B.bytes
  have hr := B.returns
  have hts := atoms_spec (ws := ws_ yX2_cut cX2_cut 3 none) B.pre
  have hts : ∀ w ∈ lw_all, w.before _ s = true := fun w h => hts w (List.mem_cons_of_mem _ h)
  have hown : s.vm.findClass RX2 = some m.cls := findClass_of_methodNamed B.named
  have hlocks := B.notSynchronized
  subst hsz
  have hK := hC.K
  have hA : ∀ q : Nat, s.heap.size ≤ q → s.heap.size ≤ q := fun _ h => h
  have hS : va_S (fun q => s.heap.size ≤ q) s.heap s.heap [] := va_S.rf
  have hP : va_P D vwCl [(jn, .inr (2, [.ref al])), (al, .inr (9, [.int mc, .ref (ad 0), .int (nI (0))]))] s.heap := hP
  have hl := lv_entry ([.ref jn, .int (nI (0))]) (n := 3) (Nat.le_of_ble_eq_true rfl)
  rw [lg_entry_eq]
  generalize (lg_sl ([.ref jn, .int (nI (0))]) ++ List.replicate (3 - (lg_sl ([.ref jn, .int (nI (0))])).length) Slot.unset).toArray = ls at hl ⊢
  have hl : lv_has ls 3 [(0, .ref jn), (1, .int (nI (0)))] := hl
  refine lv_aload_n hx hb dX2_cut_0 rfl (lv_at hl 0 rfl) ?_
  refine va_get (D := D) (ci := 2) (v := .ref al) (C := RX2) (T := TX2) (N := 1) hx hb hts in_X2 hown hK hP 0 rfl rfl 0 (by decide) (hts _ q138) (fun _ h9 => h9) rfl dX2_cut_1 ?_
  refine z_cVi (As := []) (rest := []) ⟨hx, hb, hml, hown, hts⟩ (mJ2_size l D dA ad s.heap.size al mc (ad 0) (nI (0))) (cwV 0 hts (lw_V q640 q641 q642 q59 q643) rfl rfl rfl (by decide +kernel) ⟨Nat.le_of_ble_eq_true rfl, Nat.le_of_ble_eq_true rfl⟩) hC hS (fun _ h => hA _ (Nat.le_trans hS.1 h)) (hP.sub (ws' := [(al, .inr (9, [.int mc, .ref (ad 0), .int (nI (0))]))]) [1] rfl) (va_recv hK hP (ci := 9) (q0 := 1) rfl rfl) rfl rfl hl.1 (Nat.le_of_ble_eq_true rfl) dX2_cut_4 ⟨Nat.le_of_ble_eq_true rfl, Nat.le_of_ble_eq_true rfl⟩ (fun r_1 H locs hQ hF hS => ?_)
  have hP := va_P.ro hF hP
  obtain rfl : (nI (0)) = r_1 := hQ.symm
  refine lv_iload_n hx hb dX2_cut_7 rfl (lv_at hl 1 rfl) ?_
  refine lv_icmp_le (tgt := 34) hx hb dX2_cut_8 (by decide) (fun c_2 => ?_) (fun c_2 => ?_)
  · exact z_vret hx hb hr hS (trivial) (by omega) (by omega) dX2_cut_34
  · exact absurd c_2 (by decide)
