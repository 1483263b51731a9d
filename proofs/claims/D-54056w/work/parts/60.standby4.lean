set_option maxHeartbeats 4000000 in
set_option maxRecDepth 100000 in
theorem mX3_end (l : Launch) (D : va_G) (dA : Nat → ClassId) (ad : Nat → Nat) (sz : Nat) (sy : Nat) (rc : Int32) (ap : Int32) (ac : Int32) (bs : Nat) (bw : Nat) (stk : Int32) (Wb : Nat) (hW : Wb < 2 ^ 101) (h0 : Wb.testBit 0 = false) : Met l yX3_end (ws_ yX3_end cX3_end 2 (some .int)) ({ frames := 3, cells := 0, slots := 0, locals := 90 }) (va_Pc [.ref sy] (zP D dA ad (fun q => sz ≤ q) sz (fun H => va_P D vwCl [(sy, .inr (3, [.int rc, .int ap, .ref bs, .int ac])), (bs, .inr (10, [.ref bw, .int (nI (uOf Wb)), .int stk])), (bw, .inl (dA 1, 2, .inr (.inl (lwd Wb))))] H))) (zQi (fun rz H => ((Wb = 0 ∧ rz = rc) ∨ ∃ r, rz = nI (r - 1) ∧ 1 ≤ r ∧ r ≤ 100 ∧ LowB Wb r)) (fun q => sz ≤ q)) (0) (0) (fun q => sz ≤ q) := by
  refine Met.ofW (cc := cX3_end) (maxL := 2) (ret := (some .int)) (by decide) rfl ?_
  intro p e s m args below meth c s₁ B hml hv
  obtain ⟨rfl, hsz, hC, hP⟩ := hv
  have hx := B.exec
  have hb := B.bytes
  have hr := B.returns
  have hts := atoms_spec (ws := ws_ yX3_end cX3_end 2 (some .int)) B.pre
  have hts : ∀ w ∈ lw_all, w.before _ s = true := fun w h => hts w (List.mem_cons_of_mem _ h)
  have hown : s.vm.findClass RX3 = some m.cls := findClass_of_methodNamed B.named
  have hlocks := B.notSynchronized
  subst hsz
  have hK := hC.K
  have hA : ∀ q : Nat, s.heap.size ≤ q → s.heap.size ≤ q := fun _ h => h
  have hS : va_S (fun q => s.heap.size ≤ q) s.heap s.heap [] := va_S.rf
  have hP : va_P D vwCl [(sy, .inr (3, [.int rc, .int ap, .ref bs, .int ac])), (bs, .inr (10, [.ref bw, .int (nI (uOf Wb)), .int stk])), (bw, .inl (dA 1, 2, .inr (.inl (lwd Wb))))] s.heap := hP
  have hl := lv_entry ([.ref sy]) (n := 2) (Nat.le_of_ble_eq_true rfl)
  rw [lg_entry_eq]
  generalize (lg_sl ([.ref sy]) ++ List.replicate (2 - (lg_sl ([.ref sy])).length) Slot.unset).toArray = ls at hl ⊢
  have hl : lv_has ls 2 [(0, .ref sy)] := hl
  refine lv_aload_n hx hb dX3_end_0 rfl (lv_at hl 0 rfl) ?_
  refine va_get (D := D) (ci := 3) (v := .ref bs) (C := RX3) (T := TX3) (N := 4) hx hb hts in_X3 hown hK hP 0 rfl rfl 2 (by decide) (hts _ q177) (fun _ h9 => h9) rfl dX3_end_1 ?_
  refine lv_iconst (v := nI (0)) hx hb dX3_end_4 (by decide) ?_
  refine z_cVi (As := [.int (nI (0))]) (rest := []) ⟨hx, hb, hml, hown, hts⟩ (mJ3_nextSetBit l D dA ad s.heap.size bs bw stk Wb (by omega)) (cwV 1 hts (lw_V q1038 q989 q990 q61 q991) rfl rfl rfl (by decide +kernel) ⟨Nat.le_of_ble_eq_true rfl, Nat.le_of_ble_eq_true rfl⟩) hC hS (fun _ h => hA _ (Nat.le_trans hS.1 h)) (hP.sub (ws' := [(bs, .inr (10, [.ref bw, .int (nI (uOf Wb)), .int stk])), (bw, .inl (dA 1, 2, .inr (.inl (lwd Wb))))]) [1, 2] rfl) (va_recv hK hP (ci := 10) (q0 := 1) rfl rfl) rfl rfl hl.1 (Nat.le_of_ble_eq_true rfl) dX3_end_5 ⟨Nat.le_of_ble_eq_true rfl, Nat.le_of_ble_eq_true rfl⟩ (fun r_1 H locs hQ hF hS => ?_)
  have hP := va_P.ro hF hP
  rcases hQ with ⟨hw0, hr9⟩ | ⟨r9, hr9, hr8, hr7⟩
  · refine lv_tope (y := (-1)) (hr9) ?_
    refine lv_istore_n (lv' := [(1, .int (-1)), (0, .ref sy)]) hx hb dX3_end_8 rfl hl (by decide) rfl (fun ls hl => ?_)
    refine lv_iload_n hx hb dX3_end_9 rfl (lv_at hl 0 rfl) ?_
    refine lv_if_ge (tgt := 20) hx hb dX3_end_10 (by decide) (fun c_2 => ?_) (fun c_2 => ?_)
    · exact absurd c_2 (by decide)
    · refine lv_aload_n hx hb dX3_end_13 rfl (lv_at hl 1 rfl) ?_
      refine va_get (D := D) (ci := 3) (v := .int rc) (C := RX3) (T := TX3) (N := 4) hx hb hts in_X3 hown hK hP 0 rfl rfl 0 (by decide) (hts _ q171) (fun _ h9 => h9) rfl dX3_end_14 ?_
      refine lv_goto (tgt := 23) hx hb dX3_end_17 (by decide) ?_
      exact z_iret (v := rc) hx hb hr hS (Or.inl ⟨hw0, rfl⟩) (by omega) (by omega) dX3_end_23
  · have hr1 : 1 ≤ r9 := low_pos h0 hr7
    refine lv_tope (y := nI (r9)) (hr9) ?_
    refine lv_istore_n (lv' := [(1, .int (nI (r9))), (0, .ref sy)]) hx hb dX3_end_8 rfl hl (by decide) rfl (fun ls hl => ?_)
    refine lv_iload_n hx hb dX3_end_9 rfl (lv_at hl 0 rfl) ?_
    refine lv_if_ge (tgt := 20) hx hb dX3_end_10 (by decide) (fun c_3 => ?_) (fun c_3 => ?_)
    · refine lv_iload_n hx hb dX3_end_20 rfl (lv_at hl 0 rfl) ?_
      refine lv_iconst (v := nI (1)) hx hb dX3_end_21 (by decide) ?_
      refine lv_isub hx hb dX3_end_22 ?_
      refine lv_tope (y := nI (r9 - 1)) (pk_sub (by omega)) ?_
      exact z_iret (v := nI (r9 - 1)) hx hb hr hS (Or.inr ⟨r9, rfl, hr1, hr8, hr7⟩) (by omega) (by omega) dX3_end_23
    · exact absurd (nI_pos' (by omega)) c_3
