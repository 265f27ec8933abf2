/-! the twin: public writers, 1 -/
set_option maxHeartbeats 4000000 in
set_option maxRecDepth 100000 in
theorem m_X3_row (l : Launch) (g : zG) (ad : Nat → Nat) (fi : Nat → Int32) (cn : Nat → Nat → Int32) (xl : Nat → Nat → Int64) (sz : Nat) (S : zS) (hM : MR S fi cn) (hX : MX fi cn xl) (hI : SI S) (r2 l2 n2 : Int32) : Met l yX3_row (ws_ yX3_row cX3_row 5 (some .int)) ({ frames := 2, cells := 0, slots := 0, locals := 45 }) (zPc g [.ref (ad 0), .int r2, .int l2, .int n2] (mH g ad fi cn xl sz)) (va_Qi (fun (r9 : Int32) u => r9 = (opRow S r2 l2 n2 ).1 ∧ MR (opRow S r2 l2 n2 ).2 u.1 u.2.1 ∧ MX u.1 u.2.1 u.2.2) (mB g ad sz) (mA ad sz)) 0 0 (mA ad sz) := by
  refine Met.ofW (cc := cX3_row) (maxL := 5) (ret := (some .int)) (by decide) rfl ?_
  intro p e s m args below meth c s₁ B0 hml hv
  obtain ⟨rfl, ⟨hK, hN⟩, hsz, hP, hD⟩ := hv
  have hx := B0.exec
  have hb := B0.bytes
  have hr := B0.returns
  have hts := atoms_spec (ws := ws_ yX3_row cX3_row 5 (some .int)) B0.pre
  have hts : ∀ w ∈ lw_all, w.before _ s = true := fun w h => hts w (List.mem_cons_of_mem _ h)
  have hown : s.vm.findClass RX3 = some m.cls := findClass_of_methodNamed B0.named
  have hlocks := B0.notSynchronized
  subst hsz
  have hD := mD_self s.heap.size hD
  have hS : va_S (mA ad s.heap.size) s.heap s.heap [] := va_S.rf
  have hl := lv_entry ([.ref (ad 0), .int r2, .int l2, .int n2]) (n := 5) (Nat.le_of_ble_eq_true rfl)
  rw [lg_entry_eq]
  generalize (lg_sl ([.ref (ad 0), .int r2, .int l2, .int n2]) ++ List.replicate (5 - (lg_sl ([.ref (ad 0), .int r2, .int l2, .int n2])).length) Slot.unset).toArray = ls at hl ⊢
  have hl : lv_has ls 5 [(0, .ref (ad 0)), (1, .int r2), (2, .int l2), (3, .int n2)] := hl
  obtain ⟨hf0, hf8, hf12, hf19, hf29, hc1, hc2, hc3, hc4, hc7, hc11, hc26, hc27, hc28⟩ := hM
  obtain ⟨F5, F6, F9, F10, F24, E25, N21, N22, b23, hc5, hc6, hc9, hc10, hc24, hc25, hc21, hc22, hf23⟩ := hX
  have hB : bOK (S.2.1 4) := hI.1
  have h0 : S.2.1 4 0 ≤ 4 := hB.n4
  have h3 : S.2.1 4 3 ≤ 8 := hB.r8
  have hac := hI.2.2.1
  have hta := hI.2.2.2.1
  have hmn := hI.2.2.2.2.2.2.1
  have htn := hI.2.2.2.2.2.1
  refine lv_iload_n hx hb dX3_row_0 rfl (lv_at hl 1 rfl) ?_
  refine vp_callSi (W.runS (As := [.int r2]) (rest := []) ⟨hx, hb, hml, hown, hts⟩ (m_X3_isRow l g r2) (va_cwS 1 hts (lw_S q1393 q1394 q69 q1395) rfl rfl rfl hdS_X3_isRow ⟨Nat.le_of_ble_eq_true rfl, Nat.le_of_ble_eq_true rfl⟩) (zpreS hK hN trivial) rfl rfl hl.1 rfl (lv_room (Nat.le_of_ble_eq_true rfl)) dX3_row_1 ⟨Nat.le_of_ble_eq_true rfl, Nat.le_of_ble_eq_true rfl⟩) (fun r_1 hr_1 => ?_)
  subst hr_1
  refine zi_eqB (tgt := 25) hx hb dX3_row_4 (by decide) (fun c_4 => ?_) (fun c_4 => ?_)
  · refine lv_ldc hx hb hown (hts _ q1401) dX3_row_25 ?_
    exact W.iret (v := -1000001) hx hb hr (fun t ht hW => ⟨⟨-1000001, (fi, cn, xl), rfl, (by unfold opRow; rw [zif_f c_4]; exact ⟨rfl, ⟨hf0, hf8, hf12, hf19, hf29, hc1, hc2, hc3, hc4, hc7, hc11, hc26, hc27, hc28⟩, ⟨_, _, _, _, _, _, _, _, _, hc5, hc6, hc9, hc10, hc24, hc25, hc21, hc22, hf23⟩⟩), by rw [ht]; exact hP, hD⟩, hS.F ht⟩) hS.2.2 dX3_row_27
  · refine lv_iload_n hx hb dX3_row_7 rfl (lv_at hl 2 rfl) ?_
    refine lv_i2l hx hb dX3_row_8 rfl ?_
    refine lv_lconst (v := lN 0) hx hb dX3_row_9 (by decide) ?_
    refine lv_ldc2 hx hb hown (hts _ q1400) dX3_row_10 ?_
    refine ztl (show (2 : Int64) = lN 2 from rfl) ?_
    refine vp_callSi (W.runS (As := [.long l2.toInt64, .long (lN 0), .long (lN 2)]) (rest := []) ⟨hx, hb, hml, hown, hts⟩ (m_X3_in l g l2.toInt64 (lN 0) (lN 2)) (va_cwS 3 hts (lw_S q1397 q1398 q69 q1399) rfl rfl rfl hdS_X3_in ⟨Nat.le_of_ble_eq_true rfl, Nat.le_of_ble_eq_true rfl⟩) (zpreS hK hN trivial) rfl rfl hl.1 rfl (lv_room (Nat.le_of_ble_eq_true rfl)) dX3_row_13 ⟨Nat.le_of_ble_eq_true rfl, Nat.le_of_ble_eq_true rfl⟩) (fun r_13 hr_13 => ?_)
    subst hr_13
    refine zti (show _ = zB (zIn l2 0 2) from zB_c (zIn_l l2 (by omega) (by omega))) ?_
    refine zi_eqB (tgt := 25) hx hb dX3_row_16 (by decide) (fun c_16 => ?_) (fun c_16 => ?_)
    · refine lv_ldc hx hb hown (hts _ q1401) dX3_row_25 ?_
      exact W.iret (v := -1000001) hx hb hr (fun t ht hW => ⟨⟨-1000001, (fi, cn, xl), rfl, (by unfold opRow; rw [zif_t c_4, zif_f c_16]; exact ⟨rfl, ⟨hf0, hf8, hf12, hf19, hf29, hc1, hc2, hc3, hc4, hc7, hc11, hc26, hc27, hc28⟩, ⟨_, _, _, _, _, _, _, _, _, hc5, hc6, hc9, hc10, hc24, hc25, hc21, hc22, hf23⟩⟩), by rw [ht]; exact hP, hD⟩, hS.F ht⟩) hS.2.2 dX3_row_27
    · refine lv_iload_n hx hb dX3_row_19 rfl (lv_at hl 3 rfl) ?_
      refine lv_bipush (v := nI 40) hx hb dX3_row_20 (by decide) ?_
      refine lv_icmp_le (tgt := 28) hx hb dX3_row_22 (by decide) (fun c_22 => ?_) (fun c_22 => ?_)
      · obtain ⟨x, rfl, hu_x, hv_x⟩ := zIn_ex c_4 (by omega)
        refine lv_aload_n hx hb dX3_row_28 rfl (lv_at hl 0 rfl) ?_
        refine lv_iconst (v := nI 0) hx hb dX3_row_29 (by decide) ?_
        refine va_put (D := g.1) (ci := 3) (v := .int (nI 0)) (ty := .int) (C := RX3) (T := TX3) (N := 30) hx hb hts in_X3 tyX3 tyX3_ok nmX3 hown hK hP hD hS 0 rfl rfl 0 (by decide) (hts _ q1297) (fun _ h9 => h9) rfl (by decide +kernel) rfl rfl (Nat.le_of_ble_eq_true rfl) dX3_row_30 (fun H locs hP hD hS => ?_)
        have hP : va_P g.1 zCL (mW g ad (va_up fi 0 (nI 0)) cn xl) _ := hP
        have hD : va_D (mA ad s.heap.size) (mW g ad (va_up fi 0 (nI 0)) cn xl) := hD
        refine lv_iload_n hx hb dX3_row_33 rfl (lv_at hl 3 rfl) ?_
        refine lv_if_ge (tgt := 43) hx hb dX3_row_34 (by decide) (fun c_34 => ?_) (fun c_34 => ?_)
        · obtain ⟨n, rfl, hn_n⟩ := zge_ex c_34
          have hn40 : n ≤ 40 := (nI_leI hn_n (by decide)).mp c_22
          refine lv_aload_n hx hb dX3_row_43 rfl (lv_at hl 0 rfl) ?_
          refine va_get (D := g.1) (ci := 3) (v := .ref (ad 1)) (C := RX3) (T := TX3) (N := 30) hx hb hts in_X3 hown hK hP 0 rfl rfl 1 (by decide) (hts _ q1298) (fun _ h9 => h9) rfl dX3_row_44 ?_
          refine lv_iload_n hx hb dX3_row_47 rfl (lv_at hl 1 rfl) ?_
          refine lv_iload_n hx hb dX3_row_48 rfl (lv_at hl 2 rfl) ?_
          refine zast (f := cn 1) hx hb hK hP hD hS 1 0 rfl rfl (j := x) (by omega) (by decide) dX3_row_49 (fun H locs hP hD hS => ?_)
          rw [hc1] at hP hD
          have hP : va_P g.1 zCL (mW g ad (va_up fi 0 (nI 0)) (va_up cn 1 (upd (S.2.2.1 1) x l2)) xl) _ := hP
          have hD : va_D (mA ad s.heap.size) (mW g ad (va_up fi 0 (nI 0)) (va_up cn 1 (upd (S.2.2.1 1) x l2)) xl) := hD
          refine lv_aload_n hx hb dX3_row_50 rfl (lv_at hl 0 rfl) ?_
          refine va_get (D := g.1) (ci := 3) (v := .ref (ad 2)) (C := RX3) (T := TX3) (N := 30) hx hb hts in_X3 hown hK hP 0 rfl rfl 2 (by decide) (hts _ q1299) (fun _ h9 => h9) rfl dX3_row_51 ?_
          refine lv_iload_n hx hb dX3_row_54 rfl (lv_at hl 1 rfl) ?_
          refine lv_iload_n hx hb dX3_row_55 rfl (lv_at hl 3 rfl) ?_
          refine zast (f := cn 2) hx hb hK hP hD hS 2 0 rfl rfl (j := x) (by omega) (by decide) dX3_row_56 (fun H locs hP hD hS => ?_)
          rw [hc2] at hP hD
          rw [nF_up] at hP hD
          have hP : va_P g.1 zCL (mW g ad (va_up fi 0 (nI 0)) (va_up (va_up cn 1 (upd (S.2.2.1 1) x l2)) 2 (nF (va_up (S.2.1 2) x n))) xl) _ := hP
          have hD : va_D (mA ad s.heap.size) (mW g ad (va_up fi 0 (nI 0)) (va_up (va_up cn 1 (upd (S.2.2.1 1) x l2)) 2 (nF (va_up (S.2.1 2) x n))) xl) := hD
          refine lv_iconst (v := nI 0) hx hb dX3_row_57 (by decide) ?_
          refine lv_istore (lv' := [(4, .int (nI 0)), (0, .ref (ad 0)), (1, .int (nI x)), (2, .int l2), (3, .int (nI n))]) hx hb dX3_row_58 hl (by decide) rfl (fun ls hl => ?_)
          refine zloopW (head := 60) (40) (fun k H locs cells slots ls => cells = 0 ∧ slots = 0 ∧ va_P g.1 zCL (mW g ad (va_up fi 0 (nI 0)) (va_up (va_up (va_up cn 1 (upd (S.2.2.1 1) x l2)) 2 (nF (va_up (S.2.1 2) x n))) 3 (va_cpy (fun _ => nI 0) (S.2.2.1 3) 0 (40 * x) k)) xl) H ∧ va_D (mA ad s.heap.size) (mW g ad (va_up fi 0 (nI 0)) (va_up (va_up (va_up cn 1 (upd (S.2.2.1 1) x l2)) 2 (nF (va_up (S.2.1 2) x n))) 3 (va_cpy (fun _ => nI 0) (S.2.2.1 3) 0 (40 * x) k)) xl) ∧ va_S (mA ad s.heap.size) s.heap H locs ∧ lv_has ls 5 [(0, .ref (ad 0)), (1, .int (nI x)), (2, .int l2), (3, .int (nI n)), (4, .int (nI k))]) (fun k hv_k ih_60 H locs cells slots ls hI => ?_) 0 (Nat.zero_le _) ?_
          · obtain ⟨rfl, rfl, hP, hD, hS, hl⟩ := hI
            refine lv_iload hx hb dX3_row_60 (lv_at hl 4 rfl) ?_
            refine lv_bipush (v := nI 40) hx hb dX3_row_62 (by decide) ?_
            refine zc_ge (tgt := 86) hx hb (by omega) (by omega) dX3_row_64 (by decide) (fun c_64 => ?_) (fun c_64 => ?_)
            · obtain rfl : 40 = k := by omega
              refine lv_iload_n hx hb dX3_row_86 rfl (lv_at hl 3 rfl) ?_
              exact W.iret (v := nI n) hx hb hr (fun t ht hW => ⟨⟨nI n, (va_up fi 0 (nI 0), va_up (va_up (va_up cn 1 (upd (S.2.2.1 1) x l2)) 2 (nF (va_up (S.2.1 2) x n))) 3 (va_cpy (fun _ => nI 0) (S.2.2.1 3) 0 (40 * x) 40), xl), rfl, (by unfold opRow; (try rw [zn_nI (n := x) (by omega)]); (try rw [zn_nI (n := n) (by omega)]); rw [zif_t c_4, zif_t c_16, zif_t c_22, zif_t c_34]; exact ⟨rfl, ⟨rfl, hf8, hf12, hf19, hf29, rfl, rfl, rfl, hc4, hc7, hc11, hc26, hc27, hc28⟩, ⟨_, _, _, _, _, _, _, _, _, hc5, hc6, hc9, hc10, hc24, hc25, hc21, hc22, hf23⟩⟩), by rw [ht]; exact hP, hD⟩, hS.F ht⟩) hS.2.2 dX3_row_87
            · refine lv_aload_n hx hb dX3_row_67 rfl (lv_at hl 0 rfl) ?_
              refine va_get (D := g.1) (ci := 3) (v := .ref (ad 3)) (C := RX3) (T := TX3) (N := 30) hx hb hts in_X3 hown hK hP 0 rfl rfl 3 (by decide) (hts _ q1300) (fun _ h9 => h9) rfl dX3_row_68 ?_
              refine lv_bipush (v := nI 40) hx hb dX3_row_71 (by decide) ?_
              refine lv_iload_n hx hb dX3_row_73 rfl (lv_at hl 1 rfl) ?_
              refine lv_imul hx hb dX3_row_74 ?_
              refine zti (pk_mul 40 x) ?_
              refine lv_iload hx hb dX3_row_75 (lv_at hl 4 rfl) ?_
              refine lv_iadd hx hb dX3_row_77 ?_
              refine zti (nI_add (40 * x) k) ?_
              refine lv_iconst (v := nI 0) hx hb dX3_row_78 (by decide) ?_
              refine zast (f := va_cpy (fun _ => nI 0) (S.2.2.1 3) 0 (40 * x) k) hx hb hK hP hD hS 3 0 rfl rfl (j := 40 * x + k) (by omega) (by decide) dX3_row_79 (fun H locs hP hD hS => ?_)
              have hP : va_P g.1 zCL (mW g ad (va_up fi 0 (nI 0)) (va_up (va_up (va_up cn 1 (upd (S.2.2.1 1) x l2)) 2 (nF (va_up (S.2.1 2) x n))) 3 (upd (va_cpy (fun _ => nI 0) (S.2.2.1 3) 0 (40 * x) k) (40 * x + k) (nI 0))) xl) _ := hP
              have hD : va_D (mA ad s.heap.size) (mW g ad (va_up fi 0 (nI 0)) (va_up (va_up (va_up cn 1 (upd (S.2.2.1 1) x l2)) 2 (nF (va_up (S.2.1 2) x n))) 3 (upd (va_cpy (fun _ => nI 0) (S.2.2.1 3) 0 (40 * x) k) (40 * x + k) (nI 0))) xl) := hD
              refine lv_iinc (v := nI (k + 1)) (lv' := [(4, .int (nI (k + 1))), (0, .ref (ad 0)), (1, .int (nI x)), (2, .int l2), (3, .int (nI n))]) hx hb dX3_row_80 hl (k := 4) rfl (nI_add k 1) (by decide) rfl (fun ls hl => ?_)
              refine lv_goto (tgt := 60) hx hb dX3_row_83 (by decide) ?_
              rw [show upd (va_cpy (fun _ => nI 0) (S.2.2.1 3) 0 (40 * x) k) (40 * x + k) (nI 0) = va_cpy (fun _ => nI 0) (S.2.2.1 3) 0 (40 * x) (k + 1) from upd_cpy (fun _ => nI 0) _ 0 _ k] at hP hD
              exact ih_60 (by omega) _ _ _ _ _ ⟨rfl, rfl, hP, hD, hS, lv_sub hl [1, 2, 3, 4, 0] rfl⟩
          · rw [mW_up (cn := va_up (va_up cn 1 (upd (S.2.2.1 1) x l2)) 2 (nF (va_up (S.2.1 2) x n))) (k := 3) (f := va_cpy (fun _ => nI 0) (S.2.2.1 3) 0 (40 * x) 0) (by rw [zcpy_0]; exact hc3)] at hP
            rw [mW_up (cn := va_up (va_up cn 1 (upd (S.2.2.1 1) x l2)) 2 (nF (va_up (S.2.1 2) x n))) (k := 3) (f := va_cpy (fun _ => nI 0) (S.2.2.1 3) 0 (40 * x) 0) (by rw [zcpy_0]; exact hc3)] at hD
            have hP : va_P g.1 zCL (mW g ad (va_up fi 0 (nI 0)) (va_up (va_up (va_up cn 1 (upd (S.2.2.1 1) x l2)) 2 (nF (va_up (S.2.1 2) x n))) 3 (va_cpy (fun _ => nI 0) (S.2.2.1 3) 0 (40 * x) 0)) xl) _ := hP
            have hD : va_D (mA ad s.heap.size) (mW g ad (va_up fi 0 (nI 0)) (va_up (va_up (va_up cn 1 (upd (S.2.2.1 1) x l2)) 2 (nF (va_up (S.2.1 2) x n))) 3 (va_cpy (fun _ => nI 0) (S.2.2.1 3) 0 (40 * x) 0)) xl) := hD
            exact ⟨rfl, rfl, hP, hD, hS, lv_sub hl [1, 2, 3, 4, 0] rfl⟩
        · refine lv_aload_n hx hb dX3_row_37 rfl (lv_at hl 0 rfl) ?_
          refine lv_iconst (v := nI 4) hx hb dX3_row_38 (by decide) ?_
          have hle_39 := hS.1
          refine va_calli (va_runV (As := [.int (nI 4)]) (rest := []) ⟨hx, hb, hml, hown, hts⟩ (m_X3_finding l g ad (va_up fi 0 (nI 0)) cn xl _ 4) (cwV 1 hts (lw_V q1402 q1404 qs31 q69 q1405) rfl rfl rfl hdV_X3_finding ⟨Nat.le_of_ble_eq_true rfl, Nat.le_of_ble_eq_true rfl⟩) (zpreV hK hN (va_recv hK hP (ci := 3) (q0 := 0) rfl rfl) ⟨rfl, hP, hD.weaken (fun _ _ _ _ => trivial)⟩) rfl rfl hl.1 rfl (lv_room (Nat.le_of_ble_eq_true rfl)) dX3_row_39 ⟨Nat.le_of_ble_eq_true rfl, Nat.le_of_ble_eq_true rfl⟩) hS (fun q _ h => mA_le hS.1 q h) (mA_le hS.1) (fun r_39 u t H locs ht hvm hw_39 hB hzz hkk hS => ?_)
          obtain ⟨hP, hD⟩ := hB
          rw [ht] at hP
          have hD := hD.weaken (fun _ _ _ h => mA_le hle_39 _ h)
          obtain ⟨rfl, rfl⟩ := hw_39
          have hP : va_P g.1 zCL (mW g ad (va_up fi 0 (nI 4)) cn xl) _ := hP
          have hD : va_D (mA ad s.heap.size) (mW g ad (va_up fi 0 (nI 4)) cn xl) := hD
          exact W.iret (v := -1000010 - nI 4) hx hb hr (fun t ht hW => ⟨⟨-1000010 - nI 4, (va_up fi 0 (nI 4), cn, xl), rfl, (by unfold opRow; (try rw [zn_nI (n := x) (by omega)]); rw [zif_t c_4, zif_t c_16, zif_t c_22, zif_f c_34]; exact ⟨rfl, ⟨rfl, hf8, hf12, hf19, hf29, hc1, hc2, hc3, hc4, hc7, hc11, hc26, hc27, hc28⟩, ⟨_, _, _, _, _, _, _, _, _, hc5, hc6, hc9, hc10, hc24, hc25, hc21, hc22, hf23⟩⟩), by rw [ht]; exact hP, hD⟩, hS.F ht⟩) hS.2.2 dX3_row_42
      · refine lv_ldc hx hb hown (hts _ q1401) dX3_row_25 ?_
        exact W.iret (v := -1000001) hx hb hr (fun t ht hW => ⟨⟨-1000001, (fi, cn, xl), rfl, (by unfold opRow; rw [zif_t c_4, zif_t c_16, zif_f c_22]; exact ⟨rfl, ⟨hf0, hf8, hf12, hf19, hf29, hc1, hc2, hc3, hc4, hc7, hc11, hc26, hc27, hc28⟩, ⟨_, _, _, _, _, _, _, _, _, hc5, hc6, hc9, hc10, hc24, hc25, hc21, hc22, hf23⟩⟩), by rw [ht]; exact hP, hD⟩, hS.F ht⟩) hS.2.2 dX3_row_27

set_option maxHeartbeats 4000000 in
set_option maxRecDepth 100000 in
theorem m_X3_set (l : Launch) (g : zG) (ad : Nat → Nat) (fi : Nat → Int32) (cn : Nat → Nat → Int32) (xl : Nat → Nat → Int64) (sz : Nat) (S : zS) (hM : MR S fi cn) (hX : MX fi cn xl) (hI : SI S) (r2 i2 v2 : Int32) : Met l yX3_set (ws_ yX3_set cX3_set 4 (some .int)) ({ frames := 2, cells := 0, slots := 0, locals := 45 }) (zPc g [.ref (ad 0), .int r2, .int i2, .int v2] (mH g ad fi cn xl sz)) (va_Qi (fun (r9 : Int32) u => r9 = (opSet S r2 i2 v2 ).1 ∧ MR (opSet S r2 i2 v2 ).2 u.1 u.2.1 ∧ MX u.1 u.2.1 u.2.2) (mB g ad sz) (mA ad sz)) 0 0 (mA ad sz) := by
  refine Met.ofW (cc := cX3_set) (maxL := 4) (ret := (some .int)) (by decide) rfl ?_
  intro p e s m args below meth c s₁ B0 hml hv
  obtain ⟨rfl, ⟨hK, hN⟩, hsz, hP, hD⟩ := hv
  have hx := B0.exec
  have hb := B0.bytes
  have hr := B0.returns
  have hts := atoms_spec (ws := ws_ yX3_set cX3_set 4 (some .int)) B0.pre
  have hts : ∀ w ∈ lw_all, w.before _ s = true := fun w h => hts w (List.mem_cons_of_mem _ h)
  have hown : s.vm.findClass RX3 = some m.cls := findClass_of_methodNamed B0.named
  have hlocks := B0.notSynchronized
  subst hsz
  have hD := mD_self s.heap.size hD
  have hS : va_S (mA ad s.heap.size) s.heap s.heap [] := va_S.rf
  have hl := lv_entry ([.ref (ad 0), .int r2, .int i2, .int v2]) (n := 4) (Nat.le_of_ble_eq_true rfl)
  rw [lg_entry_eq]
  generalize (lg_sl ([.ref (ad 0), .int r2, .int i2, .int v2]) ++ List.replicate (4 - (lg_sl ([.ref (ad 0), .int r2, .int i2, .int v2])).length) Slot.unset).toArray = ls at hl ⊢
  have hl : lv_has ls 4 [(0, .ref (ad 0)), (1, .int r2), (2, .int i2), (3, .int v2)] := hl
  obtain ⟨hf0, hf8, hf12, hf19, hf29, hc1, hc2, hc3, hc4, hc7, hc11, hc26, hc27, hc28⟩ := hM
  obtain ⟨F5, F6, F9, F10, F24, E25, N21, N22, b23, hc5, hc6, hc9, hc10, hc24, hc25, hc21, hc22, hf23⟩ := hX
  have hB : bOK (S.2.1 4) := hI.1
  have h0 : S.2.1 4 0 ≤ 4 := hB.n4
  have h3 : S.2.1 4 3 ≤ 8 := hB.r8
  have hac := hI.2.2.1
  have hta := hI.2.2.2.1
  have hmn := hI.2.2.2.2.2.2.1
  have htn := hI.2.2.2.2.2.1
  refine lv_iload_n hx hb dX3_set_0 rfl (lv_at hl 1 rfl) ?_
  refine vp_callSi (W.runS (As := [.int r2]) (rest := []) ⟨hx, hb, hml, hown, hts⟩ (m_X3_isRow l g r2) (va_cwS 1 hts (lw_S q1393 q1394 q69 q1395) rfl rfl rfl hdS_X3_isRow ⟨Nat.le_of_ble_eq_true rfl, Nat.le_of_ble_eq_true rfl⟩) (zpreS hK hN trivial) rfl rfl hl.1 rfl (lv_room (Nat.le_of_ble_eq_true rfl)) dX3_set_1 ⟨Nat.le_of_ble_eq_true rfl, Nat.le_of_ble_eq_true rfl⟩) (fun r_1 hr_1 => ?_)
  subst hr_1
  refine zi_neB (tgt := 10) hx hb dX3_set_4 (by decide) (fun c_4 => ?_) (fun c_4 => ?_)
  · obtain ⟨x, rfl, hu_x, hv_x⟩ := zIn_ex c_4 (by omega)
    have hmx := hmn x (by omega)
    refine lv_aload_n hx hb dX3_set_10 rfl (lv_at hl 0 rfl) ?_
    refine lv_iconst (v := nI 0) hx hb dX3_set_11 (by decide) ?_
    refine va_put (D := g.1) (ci := 3) (v := .int (nI 0)) (ty := .int) (C := RX3) (T := TX3) (N := 30) hx hb hts in_X3 tyX3 tyX3_ok nmX3 hown hK hP hD hS 0 rfl rfl 0 (by decide) (hts _ q1297) (fun _ h9 => h9) rfl (by decide +kernel) rfl rfl (Nat.le_of_ble_eq_true rfl) dX3_set_12 (fun H locs hP hD hS => ?_)
    have hP : va_P g.1 zCL (mW g ad (va_up fi 0 (nI 0)) cn xl) _ := hP
    have hD : va_D (mA ad s.heap.size) (mW g ad (va_up fi 0 (nI 0)) cn xl) := hD
    refine lv_aload_n hx hb dX3_set_15 rfl (lv_at hl 0 rfl) ?_
    refine va_get (D := g.1) (ci := 3) (v := .ref (ad 1)) (C := RX3) (T := TX3) (N := 30) hx hb hts in_X3 hown hK hP 0 rfl rfl 1 (by decide) (hts _ q1298) (fun _ h9 => h9) rfl dX3_set_16 ?_
    refine lv_iload_n hx hb dX3_set_19 rfl (lv_at hl 1 rfl) ?_
    refine zald hx hb hK hP 1 0 rfl rfl (j := x) (by omega) (by decide) dX3_set_20 ?_
    refine zti (congrFun hc1 _) ?_
    refine lv_if_ge (tgt := 30) hx hb dX3_set_21 (by decide) (fun c_21 => ?_) (fun c_21 => ?_)
    · refine lv_iload_n hx hb dX3_set_30 rfl (lv_at hl 2 rfl) ?_
      refine lv_i2l hx hb dX3_set_31 rfl ?_
      refine lv_lconst (v := lN 0) hx hb dX3_set_32 (by decide) ?_
      refine lv_aload_n hx hb dX3_set_33 rfl (lv_at hl 0 rfl) ?_
      refine va_get (D := g.1) (ci := 3) (v := .ref (ad 2)) (C := RX3) (T := TX3) (N := 30) hx hb hts in_X3 hown hK hP 0 rfl rfl 2 (by decide) (hts _ q1299) (fun _ h9 => h9) rfl dX3_set_34 ?_
      refine lv_iload_n hx hb dX3_set_37 rfl (lv_at hl 1 rfl) ?_
      refine zald hx hb hK hP 2 0 rfl rfl (j := x) (by omega) (by decide) dX3_set_38 ?_
      refine zti (congrFun hc2 _) ?_
      refine zti (show (nF (S.2.1 2)) x = nI ((S.2.1 2) x) from rfl) ?_
      refine lv_iconst (v := nI 1) hx hb dX3_set_39 (by decide) ?_
      refine lv_isub hx hb dX3_set_40 ?_
      refine lv_i2l hx hb dX3_set_41 rfl ?_
      refine vp_callSi (W.runS (As := [.long i2.toInt64, .long (lN 0), .long (((nI ((S.2.1 2) x)) - (nI 1)).toInt64)]) (rest := []) ⟨hx, hb, hml, hown, hts⟩ (m_X3_in l g i2.toInt64 (lN 0) (((nI ((S.2.1 2) x)) - (nI 1)).toInt64)) (va_cwS 3 hts (lw_S q1397 q1398 q69 q1399) rfl rfl rfl hdS_X3_in ⟨Nat.le_of_ble_eq_true rfl, Nat.le_of_ble_eq_true rfl⟩) (zpreS hK hN trivial) rfl rfl hl.1 rfl (lv_room (Nat.le_of_ble_eq_true rfl)) dX3_set_42 ⟨Nat.le_of_ble_eq_true rfl, Nat.le_of_ble_eq_true rfl⟩) (fun r_42 hr_42 => ?_)
      subst hr_42
      refine zti (zB_c (zIn_w i2 ((nI ((S.2.1 2) x)) - (nI 1)) (by omega))) ?_
      refine zti (show zB (zIn i2 0 ((nI ((S.2.1 2) x)) - (nI 1)).toInt) = zB (zIn i2 0 ((((S.2.1 2) x) : Nat) - 1 : Int)) from by rw [show nI 1 = (1 : Int32) from rfl, zpred (by omega)]) ?_
      refine zi_neB (tgt := 54) hx hb dX3_set_45 (by decide) (fun c_45 => ?_) (fun c_45 => ?_)
      · obtain ⟨i, rfl, hu_i, hv_i⟩ := zIn_ex c_45 (by omega)
        refine lv_aload_n hx hb dX3_set_54 rfl (lv_at hl 0 rfl) ?_
        refine va_get (D := g.1) (ci := 3) (v := .ref (ad 3)) (C := RX3) (T := TX3) (N := 30) hx hb hts in_X3 hown hK hP 0 rfl rfl 3 (by decide) (hts _ q1300) (fun _ h9 => h9) rfl dX3_set_55 ?_
        refine lv_bipush (v := nI 40) hx hb dX3_set_58 (by decide) ?_
        refine lv_iload_n hx hb dX3_set_60 rfl (lv_at hl 1 rfl) ?_
        refine lv_imul hx hb dX3_set_61 ?_
        refine zti (pk_mul 40 x) ?_
        refine lv_iload_n hx hb dX3_set_62 rfl (lv_at hl 2 rfl) ?_
        refine lv_iadd hx hb dX3_set_63 ?_
        refine zti (nI_add (40 * x) i) ?_
        refine zjoin (ls := ls) (α := Int32) (fun v9 => v9 = zcut (S.2.2.1 1 x) v2) (fun v9 => .int v9 :: [.int (nI (40 * x + i)), .ref (ad 3)]) 94 (fun v9 hv => ?_) (fun jn_64 => ?_)
        · subst hv
          refine zast (f := cn 3) hx hb hK hP hD hS 3 0 rfl rfl (j := 40 * x + i) (by omega) (by decide) dX3_set_94 (fun H locs hP hD hS => ?_)
          rw [hc3] at hP hD
          have hP : va_P g.1 zCL (mW g ad (va_up fi 0 (nI 0)) (va_up cn 3 (upd (S.2.2.1 3) (40 * x + i) (zcut (S.2.2.1 1 x) v2))) xl) _ := hP
          have hD : va_D (mA ad s.heap.size) (mW g ad (va_up fi 0 (nI 0)) (va_up cn 3 (upd (S.2.2.1 3) (40 * x + i) (zcut (S.2.2.1 1 x) v2))) xl) := hD
          refine lv_aload_n hx hb dX3_set_95 rfl (lv_at hl 0 rfl) ?_
          refine va_get (D := g.1) (ci := 3) (v := .ref (ad 3)) (C := RX3) (T := TX3) (N := 30) hx hb hts in_X3 hown hK hP 0 rfl rfl 3 (by decide) (hts _ q1300) (fun _ h9 => h9) rfl dX3_set_96 ?_
          refine lv_bipush (v := nI 40) hx hb dX3_set_99 (by decide) ?_
          refine lv_iload_n hx hb dX3_set_101 rfl (lv_at hl 1 rfl) ?_
          refine lv_imul hx hb dX3_set_102 ?_
          refine zti (pk_mul 40 x) ?_
          refine lv_iload_n hx hb dX3_set_103 rfl (lv_at hl 2 rfl) ?_
          refine lv_iadd hx hb dX3_set_104 ?_
          refine zti (nI_add (40 * x) i) ?_
          refine zald hx hb hK hP 3 0 rfl rfl (j := 40 * x + i) (by omega) (by decide) dX3_set_105 ?_
          refine zti (show _ = zcut (S.2.2.1 1 x) v2 from (show upd (S.2.2.1 3) (40 * x + i) (zcut (S.2.2.1 1 x) v2) (40 * x + i) = _ from pk_us)) ?_
          exact W.iret (v := zcut (S.2.2.1 1 x) v2) hx hb hr (fun t ht hW => ⟨⟨zcut (S.2.2.1 1 x) v2, (va_up fi 0 (nI 0), va_up cn 3 (upd (S.2.2.1 3) (40 * x + i) (zcut (S.2.2.1 1 x) v2)), xl), rfl, (by unfold opSet; (try rw [zn_nI (n := x) (by omega)]); (try rw [zn_nI (n := i) (by omega)]); rw [zif_t c_4, zif_t c_21, zif_t c_45]; exact ⟨rfl, ⟨rfl, hf8, hf12, hf19, hf29, hc1, hc2, rfl, hc4, hc7, hc11, hc26, hc27, hc28⟩, ⟨_, _, _, _, _, _, _, _, _, hc5, hc6, hc9, hc10, hc24, hc25, hc21, hc22, hf23⟩⟩), by rw [ht]; exact hP, hD⟩, hS.F ht⟩) hS.2.2 dX3_set_106
        · refine lv_aload_n hx hb dX3_set_64 rfl (lv_at hl 0 rfl) ?_
          refine va_get (D := g.1) (ci := 3) (v := .ref (ad 1)) (C := RX3) (T := TX3) (N := 30) hx hb hts in_X3 hown hK hP 0 rfl rfl 1 (by decide) (hts _ q1298) (fun _ h9 => h9) rfl dX3_set_65 ?_
          refine lv_iload_n hx hb dX3_set_68 rfl (lv_at hl 1 rfl) ?_
          refine zald hx hb hK hP 1 0 rfl rfl (j := x) (by omega) (by decide) dX3_set_69 ?_
          refine zti (congrFun hc1 _) ?_
          refine lv_if_ne (tgt := 78) hx hb dX3_set_70 (by decide) (fun c_70 => ?_) (fun c_70 => ?_)
          · refine lv_aload_n hx hb dX3_set_78 rfl (lv_at hl 0 rfl) ?_
            refine va_get (D := g.1) (ci := 3) (v := .ref (ad 1)) (C := RX3) (T := TX3) (N := 30) hx hb hts in_X3 hown hK hP 0 rfl rfl 1 (by decide) (hts _ q1298) (fun _ h9 => h9) rfl dX3_set_79 ?_
            refine lv_iload_n hx hb dX3_set_82 rfl (lv_at hl 1 rfl) ?_
            refine zald hx hb hK hP 1 0 rfl rfl (j := x) (by omega) (by decide) dX3_set_83 ?_
            refine zti (congrFun hc1 _) ?_
            refine lv_iconst (v := nI 1) hx hb dX3_set_84 (by decide) ?_
            refine lv_icmp_ne (tgt := 93) hx hb dX3_set_85 (by decide) (fun c_85 => ?_) (fun c_85 => ?_)
            · refine lv_iload_n hx hb dX3_set_93 rfl (lv_at hl 3 rfl) ?_
              exact jn_64 _ ((by unfold zcut; rw [zif_f c_70, zif_f c_85]))
            · refine lv_iload_n hx hb dX3_set_88 rfl (lv_at hl 3 rfl) ?_
              refine lv_i2s hx hb dX3_set_89 rfl ?_
              refine lv_goto (tgt := 94) hx hb dX3_set_90 (by decide) ?_
              exact jn_64 _ ((by unfold zcut; rw [zif_f c_70, zif_t c_85]))
          · refine lv_iload_n hx hb dX3_set_73 rfl (lv_at hl 3 rfl) ?_
            refine lv_i2b hx hb dX3_set_74 rfl ?_
            refine lv_goto (tgt := 94) hx hb dX3_set_75 (by decide) ?_
            exact jn_64 _ ((by unfold zcut; rw [zif_t c_70]))
      · refine lv_aload_n hx hb dX3_set_48 rfl (lv_at hl 0 rfl) ?_
        refine lv_iconst (v := nI 2) hx hb dX3_set_49 (by decide) ?_
        have hle_50 := hS.1
        refine va_calli (va_runV (As := [.int (nI 2)]) (rest := []) ⟨hx, hb, hml, hown, hts⟩ (m_X3_finding l g ad (va_up fi 0 (nI 0)) cn xl _ 2) (cwV 1 hts (lw_V q1402 q1404 qs31 q69 q1405) rfl rfl rfl hdV_X3_finding ⟨Nat.le_of_ble_eq_true rfl, Nat.le_of_ble_eq_true rfl⟩) (zpreV hK hN (va_recv hK hP (ci := 3) (q0 := 0) rfl rfl) ⟨rfl, hP, hD.weaken (fun _ _ _ _ => trivial)⟩) rfl rfl hl.1 rfl (lv_room (Nat.le_of_ble_eq_true rfl)) dX3_set_50 ⟨Nat.le_of_ble_eq_true rfl, Nat.le_of_ble_eq_true rfl⟩) hS (fun q _ h => mA_le hS.1 q h) (mA_le hS.1) (fun r_50 u t H locs ht hvm hw_50 hB hzz hkk hS => ?_)
        obtain ⟨hP, hD⟩ := hB
        rw [ht] at hP
        have hD := hD.weaken (fun _ _ _ h => mA_le hle_50 _ h)
        obtain ⟨rfl, rfl⟩ := hw_50
        have hP : va_P g.1 zCL (mW g ad (va_up fi 0 (nI 2)) cn xl) _ := hP
        have hD : va_D (mA ad s.heap.size) (mW g ad (va_up fi 0 (nI 2)) cn xl) := hD
        exact W.iret (v := -1000010 - nI 2) hx hb hr (fun t ht hW => ⟨⟨-1000010 - nI 2, (va_up fi 0 (nI 2), cn, xl), rfl, (by unfold opSet; (try rw [zn_nI (n := x) (by omega)]); rw [zif_t c_4, zif_t c_21, zif_f c_45]; exact ⟨rfl, ⟨rfl, hf8, hf12, hf19, hf29, hc1, hc2, hc3, hc4, hc7, hc11, hc26, hc27, hc28⟩, ⟨_, _, _, _, _, _, _, _, _, hc5, hc6, hc9, hc10, hc24, hc25, hc21, hc22, hf23⟩⟩), by rw [ht]; exact hP, hD⟩, hS.F ht⟩) hS.2.2 dX3_set_53
    · refine lv_aload_n hx hb dX3_set_24 rfl (lv_at hl 0 rfl) ?_
      refine lv_iconst (v := nI 1) hx hb dX3_set_25 (by decide) ?_
      have hle_26 := hS.1
      refine va_calli (va_runV (As := [.int (nI 1)]) (rest := []) ⟨hx, hb, hml, hown, hts⟩ (m_X3_finding l g ad (va_up fi 0 (nI 0)) cn xl _ 1) (cwV 1 hts (lw_V q1402 q1404 qs31 q69 q1405) rfl rfl rfl hdV_X3_finding ⟨Nat.le_of_ble_eq_true rfl, Nat.le_of_ble_eq_true rfl⟩) (zpreV hK hN (va_recv hK hP (ci := 3) (q0 := 0) rfl rfl) ⟨rfl, hP, hD.weaken (fun _ _ _ _ => trivial)⟩) rfl rfl hl.1 rfl (lv_room (Nat.le_of_ble_eq_true rfl)) dX3_set_26 ⟨Nat.le_of_ble_eq_true rfl, Nat.le_of_ble_eq_true rfl⟩) hS (fun q _ h => mA_le hS.1 q h) (mA_le hS.1) (fun r_26 u t H locs ht hvm hw_26 hB hzz hkk hS => ?_)
      obtain ⟨hP, hD⟩ := hB
      rw [ht] at hP
      have hD := hD.weaken (fun _ _ _ h => mA_le hle_26 _ h)
      obtain ⟨rfl, rfl⟩ := hw_26
      have hP : va_P g.1 zCL (mW g ad (va_up fi 0 (nI 1)) cn xl) _ := hP
      have hD : va_D (mA ad s.heap.size) (mW g ad (va_up fi 0 (nI 1)) cn xl) := hD
      exact W.iret (v := -1000010 - nI 1) hx hb hr (fun t ht hW => ⟨⟨-1000010 - nI 1, (va_up fi 0 (nI 1), cn, xl), rfl, (by unfold opSet; (try rw [zn_nI (n := x) (by omega)]); rw [zif_t c_4, zif_f c_21]; exact ⟨rfl, ⟨rfl, hf8, hf12, hf19, hf29, hc1, hc2, hc3, hc4, hc7, hc11, hc26, hc27, hc28⟩, ⟨_, _, _, _, _, _, _, _, _, hc5, hc6, hc9, hc10, hc24, hc25, hc21, hc22, hf23⟩⟩), by rw [ht]; exact hP, hD⟩, hS.F ht⟩) hS.2.2 dX3_set_29
  · refine lv_ldc hx hb hown (hts _ q1401) dX3_set_7 ?_
    exact W.iret (v := -1000001) hx hb hr (fun t ht hW => ⟨⟨-1000001, (fi, cn, xl), rfl, (by unfold opSet; rw [zif_f c_4]; exact ⟨rfl, ⟨hf0, hf8, hf12, hf19, hf29, hc1, hc2, hc3, hc4, hc7, hc11, hc26, hc27, hc28⟩, ⟨_, _, _, _, _, _, _, _, _, hc5, hc6, hc9, hc10, hc24, hc25, hc21, hc22, hf23⟩⟩), by rw [ht]; exact hP, hD⟩, hS.F ht⟩) hS.2.2 dX3_set_9

set_option maxHeartbeats 4000000 in
set_option maxRecDepth 100000 in
theorem m_X3_drop (l : Launch) (g : zG) (ad : Nat → Nat) (fi : Nat → Int32) (cn : Nat → Nat → Int32) (xl : Nat → Nat → Int64) (sz : Nat) (S : zS) (hM : MR S fi cn) (hX : MX fi cn xl) (hI : SI S) (r2 : Int32) : Met l yX3_drop (ws_ yX3_drop cX3_drop 2 (some .int)) ({ frames := 2, cells := 0, slots := 0, locals := 45 }) (zPc g [.ref (ad 0), .int r2] (mH g ad fi cn xl sz)) (va_Qi (fun (r9 : Int32) u => r9 = (opDrop S r2 ).1 ∧ MR (opDrop S r2 ).2 u.1 u.2.1 ∧ MX u.1 u.2.1 u.2.2) (mB g ad sz) (mA ad sz)) 0 0 (mA ad sz) := by
  refine Met.ofW (cc := cX3_drop) (maxL := 2) (ret := (some .int)) (by decide) rfl ?_
  intro p e s m args below meth c s₁ B0 hml hv
  obtain ⟨rfl, ⟨hK, hN⟩, hsz, hP, hD⟩ := hv
  have hx := B0.exec
  have hb := B0.bytes
  have hr := B0.returns
  have hts := atoms_spec (ws := ws_ yX3_drop cX3_drop 2 (some .int)) B0.pre
  have hts : ∀ w ∈ lw_all, w.before _ s = true := fun w h => hts w (List.mem_cons_of_mem _ h)
  have hown : s.vm.findClass RX3 = some m.cls := findClass_of_methodNamed B0.named
  have hlocks := B0.notSynchronized
  subst hsz
  have hD := mD_self s.heap.size hD
  have hS : va_S (mA ad s.heap.size) s.heap s.heap [] := va_S.rf
  have hl := lv_entry ([.ref (ad 0), .int r2]) (n := 2) (Nat.le_of_ble_eq_true rfl)
  rw [lg_entry_eq]
  generalize (lg_sl ([.ref (ad 0), .int r2]) ++ List.replicate (2 - (lg_sl ([.ref (ad 0), .int r2])).length) Slot.unset).toArray = ls at hl ⊢
  have hl : lv_has ls 2 [(0, .ref (ad 0)), (1, .int r2)] := hl
  obtain ⟨hf0, hf8, hf12, hf19, hf29, hc1, hc2, hc3, hc4, hc7, hc11, hc26, hc27, hc28⟩ := hM
  obtain ⟨F5, F6, F9, F10, F24, E25, N21, N22, b23, hc5, hc6, hc9, hc10, hc24, hc25, hc21, hc22, hf23⟩ := hX
  have hB : bOK (S.2.1 4) := hI.1
  have h0 : S.2.1 4 0 ≤ 4 := hB.n4
  have h3 : S.2.1 4 3 ≤ 8 := hB.r8
  have hac := hI.2.2.1
  have hta := hI.2.2.2.1
  have hmn := hI.2.2.2.2.2.2.1
  have htn := hI.2.2.2.2.2.1
  refine lv_iload_n hx hb dX3_drop_0 rfl (lv_at hl 1 rfl) ?_
  refine vp_callSi (W.runS (As := [.int r2]) (rest := []) ⟨hx, hb, hml, hown, hts⟩ (m_X3_isRow l g r2) (va_cwS 1 hts (lw_S q1393 q1394 q69 q1395) rfl rfl rfl hdS_X3_isRow ⟨Nat.le_of_ble_eq_true rfl, Nat.le_of_ble_eq_true rfl⟩) (zpreS hK hN trivial) rfl rfl hl.1 rfl (lv_room (Nat.le_of_ble_eq_true rfl)) dX3_drop_1 ⟨Nat.le_of_ble_eq_true rfl, Nat.le_of_ble_eq_true rfl⟩) (fun r_1 hr_1 => ?_)
  subst hr_1
  refine zi_neB (tgt := 10) hx hb dX3_drop_4 (by decide) (fun c_4 => ?_) (fun c_4 => ?_)
  · obtain ⟨x, rfl, hu_x, hv_x⟩ := zIn_ex c_4 (by omega)
    have hmx := hmn x (by omega)
    refine lv_aload_n hx hb dX3_drop_10 rfl (lv_at hl 0 rfl) ?_
    refine lv_iconst (v := nI 0) hx hb dX3_drop_11 (by decide) ?_
    refine va_put (D := g.1) (ci := 3) (v := .int (nI 0)) (ty := .int) (C := RX3) (T := TX3) (N := 30) hx hb hts in_X3 tyX3 tyX3_ok nmX3 hown hK hP hD hS 0 rfl rfl 0 (by decide) (hts _ q1297) (fun _ h9 => h9) rfl (by decide +kernel) rfl rfl (Nat.le_of_ble_eq_true rfl) dX3_drop_12 (fun H locs hP hD hS => ?_)
    have hP : va_P g.1 zCL (mW g ad (va_up fi 0 (nI 0)) cn xl) _ := hP
    have hD : va_D (mA ad s.heap.size) (mW g ad (va_up fi 0 (nI 0)) cn xl) := hD
    refine lv_aload_n hx hb dX3_drop_15 rfl (lv_at hl 0 rfl) ?_
    refine va_get (D := g.1) (ci := 3) (v := .ref (ad 1)) (C := RX3) (T := TX3) (N := 30) hx hb hts in_X3 hown hK hP 0 rfl rfl 1 (by decide) (hts _ q1298) (fun _ h9 => h9) rfl dX3_drop_16 ?_
    refine lv_iload_n hx hb dX3_drop_19 rfl (lv_at hl 1 rfl) ?_
    refine zald hx hb hK hP 1 0 rfl rfl (j := x) (by omega) (by decide) dX3_drop_20 ?_
    refine zti (congrFun hc1 _) ?_
    refine lv_if_ge (tgt := 30) hx hb dX3_drop_21 (by decide) (fun c_21 => ?_) (fun c_21 => ?_)
    · refine lv_aload_n hx hb dX3_drop_30 rfl (lv_at hl 0 rfl) ?_
      refine va_get (D := g.1) (ci := 3) (v := .ref (ad 1)) (C := RX3) (T := TX3) (N := 30) hx hb hts in_X3 hown hK hP 0 rfl rfl 1 (by decide) (hts _ q1298) (fun _ h9 => h9) rfl dX3_drop_31 ?_
      refine lv_iload_n hx hb dX3_drop_34 rfl (lv_at hl 1 rfl) ?_
      refine lv_iconst (v := -1) hx hb dX3_drop_35 (by decide) ?_
      refine zast (f := cn 1) hx hb hK hP hD hS 1 0 rfl rfl (j := x) (by omega) (by decide) dX3_drop_36 (fun H locs hP hD hS => ?_)
      rw [hc1] at hP hD
      have hP : va_P g.1 zCL (mW g ad (va_up fi 0 (nI 0)) (va_up cn 1 (upd (S.2.2.1 1) x (-1))) xl) _ := hP
      have hD : va_D (mA ad s.heap.size) (mW g ad (va_up fi 0 (nI 0)) (va_up cn 1 (upd (S.2.2.1 1) x (-1))) xl) := hD
      refine lv_aload_n hx hb dX3_drop_37 rfl (lv_at hl 0 rfl) ?_
      refine va_get (D := g.1) (ci := 3) (v := .ref (ad 2)) (C := RX3) (T := TX3) (N := 30) hx hb hts in_X3 hown hK hP 0 rfl rfl 2 (by decide) (hts _ q1299) (fun _ h9 => h9) rfl dX3_drop_38 ?_
      refine lv_iload_n hx hb dX3_drop_41 rfl (lv_at hl 1 rfl) ?_
      refine zald hx hb hK hP 2 0 rfl rfl (j := x) (by omega) (by decide) dX3_drop_42 ?_
      refine zti (congrFun hc2 _) ?_
      refine zti (show (nF (S.2.1 2)) x = nI ((S.2.1 2) x) from rfl) ?_
      exact W.iret (v := nI ((S.2.1 2) x)) hx hb hr (fun t ht hW => ⟨⟨nI ((S.2.1 2) x), (va_up fi 0 (nI 0), va_up cn 1 (upd (S.2.2.1 1) x (-1)), xl), rfl, (by unfold opDrop; (try rw [zn_nI (n := x) (by omega)]); rw [zif_t c_4, zif_t c_21]; exact ⟨rfl, ⟨rfl, hf8, hf12, hf19, hf29, rfl, hc2, hc3, hc4, hc7, hc11, hc26, hc27, hc28⟩, ⟨_, _, _, _, _, _, _, _, _, hc5, hc6, hc9, hc10, hc24, hc25, hc21, hc22, hf23⟩⟩), by rw [ht]; exact hP, hD⟩, hS.F ht⟩) hS.2.2 dX3_drop_43
    · refine lv_aload_n hx hb dX3_drop_24 rfl (lv_at hl 0 rfl) ?_
      refine lv_iconst (v := nI 1) hx hb dX3_drop_25 (by decide) ?_
      have hle_26 := hS.1
      refine va_calli (va_runV (As := [.int (nI 1)]) (rest := []) ⟨hx, hb, hml, hown, hts⟩ (m_X3_finding l g ad (va_up fi 0 (nI 0)) cn xl _ 1) (cwV 1 hts (lw_V q1402 q1404 qs31 q69 q1405) rfl rfl rfl hdV_X3_finding ⟨Nat.le_of_ble_eq_true rfl, Nat.le_of_ble_eq_true rfl⟩) (zpreV hK hN (va_recv hK hP (ci := 3) (q0 := 0) rfl rfl) ⟨rfl, hP, hD.weaken (fun _ _ _ _ => trivial)⟩) rfl rfl hl.1 rfl (lv_room (Nat.le_of_ble_eq_true rfl)) dX3_drop_26 ⟨Nat.le_of_ble_eq_true rfl, Nat.le_of_ble_eq_true rfl⟩) hS (fun q _ h => mA_le hS.1 q h) (mA_le hS.1) (fun r_26 u t H locs ht hvm hw_26 hB hzz hkk hS => ?_)
      obtain ⟨hP, hD⟩ := hB
      rw [ht] at hP
      have hD := hD.weaken (fun _ _ _ h => mA_le hle_26 _ h)
      obtain ⟨rfl, rfl⟩ := hw_26
      have hP : va_P g.1 zCL (mW g ad (va_up fi 0 (nI 1)) cn xl) _ := hP
      have hD : va_D (mA ad s.heap.size) (mW g ad (va_up fi 0 (nI 1)) cn xl) := hD
      exact W.iret (v := -1000010 - nI 1) hx hb hr (fun t ht hW => ⟨⟨-1000010 - nI 1, (va_up fi 0 (nI 1), cn, xl), rfl, (by unfold opDrop; (try rw [zn_nI (n := x) (by omega)]); rw [zif_t c_4, zif_f c_21]; exact ⟨rfl, ⟨rfl, hf8, hf12, hf19, hf29, hc1, hc2, hc3, hc4, hc7, hc11, hc26, hc27, hc28⟩, ⟨_, _, _, _, _, _, _, _, _, hc5, hc6, hc9, hc10, hc24, hc25, hc21, hc22, hf23⟩⟩), by rw [ht]; exact hP, hD⟩, hS.F ht⟩) hS.2.2 dX3_drop_29
  · refine lv_ldc hx hb hown (hts _ q1401) dX3_drop_7 ?_
    exact W.iret (v := -1000001) hx hb hr (fun t ht hW => ⟨⟨-1000001, (fi, cn, xl), rfl, (by unfold opDrop; rw [zif_f c_4]; exact ⟨rfl, ⟨hf0, hf8, hf12, hf19, hf29, hc1, hc2, hc3, hc4, hc7, hc11, hc26, hc27, hc28⟩, ⟨_, _, _, _, _, _, _, _, _, hc5, hc6, hc9, hc10, hc24, hc25, hc21, hc22, hf23⟩⟩), by rw [ht]; exact hP, hD⟩, hS.F ht⟩) hS.2.2 dX3_drop_9

set_option maxHeartbeats 4000000 in
set_option maxRecDepth 100000 in
theorem m_X3_feed (l : Launch) (g : zG) (ad : Nat → Nat) (fi : Nat → Int32) (cn : Nat → Nat → Int32) (xl : Nat → Nat → Int64) (sz : Nat) (S : zS) (hM : MR S fi cn) (hX : MX fi cn xl) (hI : SI S) (l2 : Int32) : Met l yX3_feed (ws_ yX3_feed cX3_feed 2 (some .int)) ({ frames := 1, cells := 0, slots := 0, locals := 25 }) (zPc g [.ref (ad 0), .int l2] (mH g ad fi cn xl sz)) (va_Qi (fun (r9 : Int32) u => r9 = (opFeed S l2 ).1 ∧ MR (opFeed S l2 ).2 u.1 u.2.1 ∧ MX u.1 u.2.1 u.2.2) (mB g ad sz) (mA ad sz)) 0 0 (mA ad sz) := by
  refine Met.ofW (cc := cX3_feed) (maxL := 2) (ret := (some .int)) (by decide) rfl ?_
  intro p e s m args below meth c s₁ B0 hml hv
  obtain ⟨rfl, ⟨hK, hN⟩, hsz, hP, hD⟩ := hv
  have hx := B0.exec
  have hb := B0.bytes
  have hr := B0.returns
  have hts := atoms_spec (ws := ws_ yX3_feed cX3_feed 2 (some .int)) B0.pre
  have hts : ∀ w ∈ lw_all, w.before _ s = true := fun w h => hts w (List.mem_cons_of_mem _ h)
  have hown : s.vm.findClass RX3 = some m.cls := findClass_of_methodNamed B0.named
  have hlocks := B0.notSynchronized
  subst hsz
  have hD := mD_self s.heap.size hD
  have hS : va_S (mA ad s.heap.size) s.heap s.heap [] := va_S.rf
  have hl := lv_entry ([.ref (ad 0), .int l2]) (n := 2) (Nat.le_of_ble_eq_true rfl)
  rw [lg_entry_eq]
  generalize (lg_sl ([.ref (ad 0), .int l2]) ++ List.replicate (2 - (lg_sl ([.ref (ad 0), .int l2])).length) Slot.unset).toArray = ls at hl ⊢
  have hl : lv_has ls 2 [(0, .ref (ad 0)), (1, .int l2)] := hl
  obtain ⟨hf0, hf8, hf12, hf19, hf29, hc1, hc2, hc3, hc4, hc7, hc11, hc26, hc27, hc28⟩ := hM
  obtain ⟨F5, F6, F9, F10, F24, E25, N21, N22, b23, hc5, hc6, hc9, hc10, hc24, hc25, hc21, hc22, hf23⟩ := hX
  have hB : bOK (S.2.1 4) := hI.1
  have h0 : S.2.1 4 0 ≤ 4 := hB.n4
  have h3 : S.2.1 4 3 ≤ 8 := hB.r8
  have hac := hI.2.2.1
  have hta := hI.2.2.2.1
  have hmn := hI.2.2.2.2.2.2.1
  have htn := hI.2.2.2.2.2.1
  refine lv_iload_n hx hb dX3_feed_0 rfl (lv_at hl 1 rfl) ?_
  refine lv_i2l hx hb dX3_feed_1 rfl ?_
  refine lv_lconst (v := lN 0) hx hb dX3_feed_2 (by decide) ?_
  refine lv_ldc2 hx hb hown (hts _ q1423) dX3_feed_3 ?_
  refine ztl (show (255 : Int64) = lN 255 from rfl) ?_
  refine vp_callSi (W.runS (As := [.long l2.toInt64, .long (lN 0), .long (lN 255)]) (rest := []) ⟨hx, hb, hml, hown, hts⟩ (m_X3_in l g l2.toInt64 (lN 0) (lN 255)) (va_cwS 3 hts (lw_S q1397 q1398 q69 q1399) rfl rfl rfl hdS_X3_in ⟨Nat.le_of_ble_eq_true rfl, Nat.le_of_ble_eq_true rfl⟩) (zpreS hK hN trivial) rfl rfl hl.1 rfl (lv_room (Nat.le_of_ble_eq_true rfl)) dX3_feed_6 ⟨Nat.le_of_ble_eq_true rfl, Nat.le_of_ble_eq_true rfl⟩) (fun r_6 hr_6 => ?_)
  subst hr_6
  refine zti (show _ = zB (zIn l2 0 255) from zB_c (zIn_l l2 (by omega) (by omega))) ?_
  refine zi_neB (tgt := 15) hx hb dX3_feed_9 (by decide) (fun c_9 => ?_) (fun c_9 => ?_)
  · refine lv_aload_n hx hb dX3_feed_15 rfl (lv_at hl 0 rfl) ?_
    refine va_get (D := g.1) (ci := 3) (v := .int (fi 12)) (C := RX3) (T := TX3) (N := 30) hx hb hts in_X3 hown hK hP 0 rfl rfl 12 (by decide) (hts _ q1309) (fun _ h9 => h9) rfl dX3_feed_16 ?_
    refine zti (hf12) ?_
    refine lv_bipush (v := nI 120) hx hb dX3_feed_19 (by decide) ?_
    refine zc_ne (tgt := 27) hx hb (by omega) (by omega) dX3_feed_21 (by decide) (fun c_21 => ?_) (fun c_21 => ?_)
    · obtain ⟨n, rfl, hu_n, hv_n⟩ := zIn_ex c_9 (by omega)
      refine lv_aload_n hx hb dX3_feed_27 rfl (lv_at hl 0 rfl) ?_
      refine va_get (D := g.1) (ci := 3) (v := .ref (ad 11)) (C := RX3) (T := TX3) (N := 30) hx hb hts in_X3 hown hK hP 0 rfl rfl 11 (by decide) (hts _ q1308) (fun _ h9 => h9) rfl dX3_feed_28 ?_
      refine lv_aload_n hx hb dX3_feed_31 rfl (lv_at hl 0 rfl) ?_
      refine va_get (D := g.1) (ci := 3) (v := .int (fi 12)) (C := RX3) (T := TX3) (N := 30) hx hb hts in_X3 hown hK hP 0 rfl rfl 12 (by decide) (hts _ q1309) (fun _ h9 => h9) rfl dX3_feed_32 ?_
      refine zti (hf12) ?_
      refine lv_iload_n hx hb dX3_feed_35 rfl (lv_at hl 1 rfl) ?_
      refine zast (f := cn 11) hx hb hK hP hD hS 10 0 rfl rfl (j := S.1 12) (by omega) (by decide) dX3_feed_36 (fun H locs hP hD hS => ?_)
      rw [hc11] at hP hD
      rw [nF_up] at hP hD
      have hP : va_P g.1 zCL (mW g ad fi (va_up cn 11 (nF (va_up (S.2.1 11) (S.1 12) n))) xl) _ := hP
      have hD : va_D (mA ad s.heap.size) (mW g ad fi (va_up cn 11 (nF (va_up (S.2.1 11) (S.1 12) n))) xl) := hD
      refine lv_aload_n hx hb dX3_feed_37 rfl (lv_at hl 0 rfl) ?_
      refine lv_dup hx hb dX3_feed_38 rfl ?_
      refine va_get (D := g.1) (ci := 3) (v := .int (fi 12)) (C := RX3) (T := TX3) (N := 30) hx hb hts in_X3 hown hK hP 0 rfl rfl 12 (by decide) (hts _ q1309) (fun _ h9 => h9) rfl dX3_feed_39 ?_
      refine zti (hf12) ?_
      refine lv_iconst (v := nI 1) hx hb dX3_feed_42 (by decide) ?_
      refine lv_iadd hx hb dX3_feed_43 ?_
      refine zti (nI_add (S.1 12) 1) ?_
      refine va_put (D := g.1) (ci := 3) (v := .int (nI (S.1 12 + 1))) (ty := .int) (C := RX3) (T := TX3) (N := 30) hx hb hts in_X3 tyX3 tyX3_ok nmX3 hown hK hP hD hS 0 rfl rfl 12 (by decide) (hts _ q1309) (fun _ h9 => h9) rfl (by decide +kernel) rfl rfl (Nat.le_of_ble_eq_true rfl) dX3_feed_44 (fun H locs hP hD hS => ?_)
      have hP : va_P g.1 zCL (mW g ad (va_up fi 12 (nI (S.1 12 + 1))) (va_up cn 11 (nF (va_up (S.2.1 11) (S.1 12) n))) xl) _ := hP
      have hD : va_D (mA ad s.heap.size) (mW g ad (va_up fi 12 (nI (S.1 12 + 1))) (va_up cn 11 (nF (va_up (S.2.1 11) (S.1 12) n))) xl) := hD
      refine lv_aload_n hx hb dX3_feed_47 rfl (lv_at hl 0 rfl) ?_
      refine va_get (D := g.1) (ci := 3) (v := .int (nI (S.1 12 + 1))) (C := RX3) (T := TX3) (N := 30) hx hb hts in_X3 hown hK hP 0 rfl rfl 12 (by decide) (hts _ q1309) (fun _ h9 => h9) rfl dX3_feed_48 ?_
      exact W.iret (v := nI (S.1 12 + 1)) hx hb hr (fun t ht hW => ⟨⟨nI (S.1 12 + 1), (va_up fi 12 (nI (S.1 12 + 1)), va_up cn 11 (nF (va_up (S.2.1 11) (S.1 12) n)), xl), rfl, (by unfold opFeed; (try rw [zn_nI (n := n) (by omega)]); rw [zif_t c_9, zif_f c_21]; exact ⟨rfl, ⟨hf0, hf8, rfl, hf19, hf29, hc1, hc2, hc3, hc4, hc7, rfl, hc26, hc27, hc28⟩, ⟨_, _, _, _, _, _, _, _, _, hc5, hc6, hc9, hc10, hc24, hc25, hc21, hc22, hf23⟩⟩), by rw [ht]; exact hP, hD⟩, hS.F ht⟩) hS.2.2 dX3_feed_51
    · refine lv_ldc hx hb hown (hts _ q1424) dX3_feed_24 ?_
      exact W.iret (v := -1000003) hx hb hr (fun t ht hW => ⟨⟨-1000003, (fi, cn, xl), rfl, (by unfold opFeed; rw [zif_t c_9, zif_t c_21]; exact ⟨rfl, ⟨hf0, hf8, hf12, hf19, hf29, hc1, hc2, hc3, hc4, hc7, hc11, hc26, hc27, hc28⟩, ⟨_, _, _, _, _, _, _, _, _, hc5, hc6, hc9, hc10, hc24, hc25, hc21, hc22, hf23⟩⟩), by rw [ht]; exact hP, hD⟩, hS.F ht⟩) hS.2.2 dX3_feed_26
  · refine lv_ldc hx hb hown (hts _ q1401) dX3_feed_12 ?_
    exact W.iret (v := -1000001) hx hb hr (fun t ht hW => ⟨⟨-1000001, (fi, cn, xl), rfl, (by unfold opFeed; rw [zif_f c_9]; exact ⟨rfl, ⟨hf0, hf8, hf12, hf19, hf29, hc1, hc2, hc3, hc4, hc7, hc11, hc26, hc27, hc28⟩, ⟨_, _, _, _, _, _, _, _, _, hc5, hc6, hc9, hc10, hc24, hc25, hc21, hc22, hf23⟩⟩), by rw [ht]; exact hP, hD⟩, hS.F ht⟩) hS.2.2 dX3_feed_14

set_option maxHeartbeats 4000000 in
set_option maxRecDepth 100000 in
theorem m_X3_undo (l : Launch) (g : zG) (ad : Nat → Nat) (fi : Nat → Int32) (cn : Nat → Nat → Int32) (xl : Nat → Nat → Int64) (sz : Nat) (S : zS) (hM : MR S fi cn) (hX : MX fi cn xl) (hI : SI S) : Met l yX3_undo (ws_ yX3_undo cX3_undo 2 (some .int)) ({ frames := 0, cells := 0, slots := 0, locals := 0 }) (zPc g [.ref (ad 0)] (mH g ad fi cn xl sz)) (va_Qi (fun (r9 : Int32) u => r9 = (opUndo S ).1 ∧ MR (opUndo S ).2 u.1 u.2.1 ∧ MX u.1 u.2.1 u.2.2) (mB g ad sz) (mA ad sz)) 0 0 (mA ad sz) := by
  refine Met.ofW (cc := cX3_undo) (maxL := 2) (ret := (some .int)) (by decide) rfl ?_
  intro p e s m args below meth c s₁ B0 hml hv
  obtain ⟨rfl, ⟨hK, hN⟩, hsz, hP, hD⟩ := hv
  have hx := B0.exec
  have hb := B0.bytes
  have hr := B0.returns
  have hts := atoms_spec (ws := ws_ yX3_undo cX3_undo 2 (some .int)) B0.pre
  have hts : ∀ w ∈ lw_all, w.before _ s = true := fun w h => hts w (List.mem_cons_of_mem _ h)
  have hown : s.vm.findClass RX3 = some m.cls := findClass_of_methodNamed B0.named
  have hlocks := B0.notSynchronized
  subst hsz
  have hD := mD_self s.heap.size hD
  have hS : va_S (mA ad s.heap.size) s.heap s.heap [] := va_S.rf
  have hl := lv_entry ([.ref (ad 0)]) (n := 2) (Nat.le_of_ble_eq_true rfl)
  rw [lg_entry_eq]
  generalize (lg_sl ([.ref (ad 0)]) ++ List.replicate (2 - (lg_sl ([.ref (ad 0)])).length) Slot.unset).toArray = ls at hl ⊢
  have hl : lv_has ls 2 [(0, .ref (ad 0))] := hl
  obtain ⟨hf0, hf8, hf12, hf19, hf29, hc1, hc2, hc3, hc4, hc7, hc11, hc26, hc27, hc28⟩ := hM
  obtain ⟨F5, F6, F9, F10, F24, E25, N21, N22, b23, hc5, hc6, hc9, hc10, hc24, hc25, hc21, hc22, hf23⟩ := hX
  have hB : bOK (S.2.1 4) := hI.1
  have h0 : S.2.1 4 0 ≤ 4 := hB.n4
  have h3 : S.2.1 4 3 ≤ 8 := hB.r8
  have hac := hI.2.2.1
  have hta := hI.2.2.2.1
  have hmn := hI.2.2.2.2.2.2.1
  have htn := hI.2.2.2.2.2.1
  refine lv_aload_n hx hb dX3_undo_0 rfl (lv_at hl 0 rfl) ?_
  refine va_get (D := g.1) (ci := 3) (v := .int (fi 8)) (C := RX3) (T := TX3) (N := 30) hx hb hts in_X3 hown hK hP 0 rfl rfl 8 (by decide) (hts _ q1305) (fun _ h9 => h9) rfl dX3_undo_1 ?_
  refine zti (hf8) ?_
  refine zi_ne (tgt := 10) hx hb (by omega) dX3_undo_4 (by decide) (fun c_4 => ?_) (fun c_4 => ?_)
  · refine lv_aload_n hx hb dX3_undo_10 rfl (lv_at hl 0 rfl) ?_
    refine lv_dup hx hb dX3_undo_11 rfl ?_
    refine va_get (D := g.1) (ci := 3) (v := .int (fi 8)) (C := RX3) (T := TX3) (N := 30) hx hb hts in_X3 hown hK hP 0 rfl rfl 8 (by decide) (hts _ q1305) (fun _ h9 => h9) rfl dX3_undo_12 ?_
    refine zti (hf8) ?_
    refine lv_iconst (v := nI 1) hx hb dX3_undo_15 (by decide) ?_
    refine lv_isub hx hb dX3_undo_16 ?_
    refine zti (pk_sub (a := S.1 8) (b := 1) (by omega)) ?_
    refine va_put (D := g.1) (ci := 3) (v := .int (nI (S.1 8 - 1))) (ty := .int) (C := RX3) (T := TX3) (N := 30) hx hb hts in_X3 tyX3 tyX3_ok nmX3 hown hK hP hD hS 0 rfl rfl 8 (by decide) (hts _ q1305) (fun _ h9 => h9) rfl (by decide +kernel) rfl rfl (Nat.le_of_ble_eq_true rfl) dX3_undo_17 (fun H locs hP hD hS => ?_)
    have hP : va_P g.1 zCL (mW g ad (va_up fi 8 (nI (S.1 8 - 1))) cn xl) _ := hP
    have hD : va_D (mA ad s.heap.size) (mW g ad (va_up fi 8 (nI (S.1 8 - 1))) cn xl) := hD
    refine lv_iconst (v := nI 0) hx hb dX3_undo_20 (by decide) ?_
    refine lv_istore_n (lv' := [(1, .int (nI 0)), (0, .ref (ad 0))]) hx hb dX3_undo_21 rfl hl (by decide) rfl (fun ls hl => ?_)
    refine zloopW (head := 22) (44) (fun k H locs cells slots ls => cells = 0 ∧ slots = 0 ∧ va_P g.1 zCL (mW g ad (va_up fi 8 (nI (S.1 8 - 1))) (va_up cn 4 (nF (va_cpy (fun j => S.2.1 7 (44 * (S.1 8 - 1) + j)) (S.2.1 4) 0 0 k))) xl) H ∧ va_D (mA ad s.heap.size) (mW g ad (va_up fi 8 (nI (S.1 8 - 1))) (va_up cn 4 (nF (va_cpy (fun j => S.2.1 7 (44 * (S.1 8 - 1) + j)) (S.2.1 4) 0 0 k))) xl) ∧ va_S (mA ad s.heap.size) s.heap H locs ∧ lv_has ls 2 [(0, .ref (ad 0)), (1, .int (nI k))]) (fun k hv_k ih_22 H locs cells slots ls hI => ?_) 0 (Nat.zero_le _) ?_
    · obtain ⟨rfl, rfl, hP, hD, hS, hl⟩ := hI
      refine lv_iload_n hx hb dX3_undo_22 rfl (lv_at hl 1 rfl) ?_
      refine lv_bipush (v := nI 44) hx hb dX3_undo_23 (by decide) ?_
      refine zc_ge (tgt := 54) hx hb (by omega) (by omega) dX3_undo_25 (by decide) (fun c_25 => ?_) (fun c_25 => ?_)
      · obtain rfl : 44 = k := by omega
        obtain ⟨hP, hD⟩ := hP.exi hD 4 (f' := nF (fun j => S.2.1 7 (44 * (S.1 8 - 1) + j))) rfl (fun j hj => by show nI (va_cpy _ _ 0 0 44 j) = nI _; rw [zcpy_in (by omega) (by omega)]; rw [Nat.zero_add, Nat.sub_zero])
        have hP : va_P g.1 zCL (mW g ad (va_up fi 8 (nI (S.1 8 - 1))) (va_up cn 4 (nF (fun j => S.2.1 7 (44 * (S.1 8 - 1) + j)))) xl) _ := hP
        have hD : va_D (mA ad s.heap.size) (mW g ad (va_up fi 8 (nI (S.1 8 - 1))) (va_up cn 4 (nF (fun j => S.2.1 7 (44 * (S.1 8 - 1) + j)))) xl) := hD
        refine lv_aload_n hx hb dX3_undo_54 rfl (lv_at hl 0 rfl) ?_
        refine va_get (D := g.1) (ci := 3) (v := .int (nI (S.1 8 - 1))) (C := RX3) (T := TX3) (N := 30) hx hb hts in_X3 hown hK hP 0 rfl rfl 8 (by decide) (hts _ q1305) (fun _ h9 => h9) rfl dX3_undo_55 ?_
        exact W.iret (v := nI (S.1 8 - 1)) hx hb hr (fun t ht hW => ⟨⟨nI (S.1 8 - 1), (va_up fi 8 (nI (S.1 8 - 1)), va_up cn 4 (nF (fun j => S.2.1 7 (44 * (S.1 8 - 1) + j))), xl), rfl, (by unfold opUndo; rw [zif_f c_4]; exact ⟨rfl, ⟨hf0, rfl, hf12, hf19, hf29, hc1, hc2, hc3, rfl, hc7, hc11, hc26, hc27, hc28⟩, ⟨_, _, _, _, _, _, _, _, _, hc5, hc6, hc9, hc10, hc24, hc25, hc21, hc22, hf23⟩⟩), by rw [ht]; exact hP, hD⟩, hS.F ht⟩) hS.2.2 dX3_undo_58
      · refine lv_aload_n hx hb dX3_undo_28 rfl (lv_at hl 0 rfl) ?_
        refine va_get (D := g.1) (ci := 3) (v := .ref (ad 4)) (C := RX3) (T := TX3) (N := 30) hx hb hts in_X3 hown hK hP 0 rfl rfl 4 (by decide) (hts _ q1301) (fun _ h9 => h9) rfl dX3_undo_29 ?_
        refine lv_iload_n hx hb dX3_undo_32 rfl (lv_at hl 1 rfl) ?_
        refine lv_aload_n hx hb dX3_undo_33 rfl (lv_at hl 0 rfl) ?_
        refine va_get (D := g.1) (ci := 3) (v := .ref (ad 7)) (C := RX3) (T := TX3) (N := 30) hx hb hts in_X3 hown hK hP 0 rfl rfl 7 (by decide) (hts _ q1304) (fun _ h9 => h9) rfl dX3_undo_34 ?_
        refine lv_bipush (v := nI 44) hx hb dX3_undo_37 (by decide) ?_
        refine lv_aload_n hx hb dX3_undo_39 rfl (lv_at hl 0 rfl) ?_
        refine va_get (D := g.1) (ci := 3) (v := .int (nI (S.1 8 - 1))) (C := RX3) (T := TX3) (N := 30) hx hb hts in_X3 hown hK hP 0 rfl rfl 8 (by decide) (hts _ q1305) (fun _ h9 => h9) rfl dX3_undo_40 ?_
        refine lv_imul hx hb dX3_undo_43 ?_
        refine zti (pk_mul 44 (S.1 8 - 1)) ?_
        refine lv_iload_n hx hb dX3_undo_44 rfl (lv_at hl 1 rfl) ?_
        refine lv_iadd hx hb dX3_undo_45 ?_
        refine zti (nI_add (44 * (S.1 8 - 1)) k) ?_
        refine zald hx hb hK hP 7 0 rfl rfl (j := 44 * (S.1 8 - 1) + k) (by omega) (by decide) dX3_undo_46 ?_
        refine zti (congrFun hc7 _) ?_
        refine zti (show (nF (S.2.1 7)) (44 * (S.1 8 - 1) + k) = nI ((S.2.1 7) (44 * (S.1 8 - 1) + k)) from rfl) ?_
        refine zast (f := nF (va_cpy (fun j => S.2.1 7 (44 * (S.1 8 - 1) + j)) (S.2.1 4) 0 0 k)) hx hb hK hP hD hS 4 0 rfl rfl (j := k) (by omega) (by decide) dX3_undo_47 (fun H locs hP hD hS => ?_)
        rw [nF_up] at hP hD
        have hP : va_P g.1 zCL (mW g ad (va_up fi 8 (nI (S.1 8 - 1))) (va_up cn 4 (nF (va_up (va_cpy (fun j => S.2.1 7 (44 * (S.1 8 - 1) + j)) (S.2.1 4) 0 0 k) k ((S.2.1 7) (44 * (S.1 8 - 1) + k))))) xl) _ := hP
        have hD : va_D (mA ad s.heap.size) (mW g ad (va_up fi 8 (nI (S.1 8 - 1))) (va_up cn 4 (nF (va_up (va_cpy (fun j => S.2.1 7 (44 * (S.1 8 - 1) + j)) (S.2.1 4) 0 0 k) k ((S.2.1 7) (44 * (S.1 8 - 1) + k))))) xl) := hD
        refine lv_iinc (v := nI (k + 1)) (lv' := [(1, .int (nI (k + 1))), (0, .ref (ad 0))]) hx hb dX3_undo_48 hl (k := 1) rfl (nI_add k 1) (by decide) rfl (fun ls hl => ?_)
        refine lv_goto (tgt := 22) hx hb dX3_undo_51 (by decide) ?_
        rw [show va_up (va_cpy (fun j => S.2.1 7 (44 * (S.1 8 - 1) + j)) (S.2.1 4) 0 0 k) k (S.2.1 7 (44 * (S.1 8 - 1) + k)) = va_cpy (fun j => S.2.1 7 (44 * (S.1 8 - 1) + j)) (S.2.1 4) 0 0 (k + 1) by have := zcpy_s (fun j => S.2.1 7 (44 * (S.1 8 - 1) + j)) (S.2.1 4) 0 0 k; simp only [Nat.zero_add] at this; exact this] at hP hD
        exact ih_22 (by omega) _ _ _ _ _ ⟨rfl, rfl, hP, hD, hS, lv_sub hl [1, 0] rfl⟩
    · rw [mW_up (cn := cn) (k := 4) (f := nF (va_cpy (fun j => S.2.1 7 (44 * (S.1 8 - 1) + j)) (S.2.1 4) 0 0 0)) (by rw [zcpy_0]; exact hc4)] at hP
      rw [mW_up (cn := cn) (k := 4) (f := nF (va_cpy (fun j => S.2.1 7 (44 * (S.1 8 - 1) + j)) (S.2.1 4) 0 0 0)) (by rw [zcpy_0]; exact hc4)] at hD
      have hP : va_P g.1 zCL (mW g ad (va_up fi 8 (nI (S.1 8 - 1))) (va_up cn 4 (nF (va_cpy (fun j => S.2.1 7 (44 * (S.1 8 - 1) + j)) (S.2.1 4) 0 0 0))) xl) _ := hP
      have hD : va_D (mA ad s.heap.size) (mW g ad (va_up fi 8 (nI (S.1 8 - 1))) (va_up cn 4 (nF (va_cpy (fun j => S.2.1 7 (44 * (S.1 8 - 1) + j)) (S.2.1 4) 0 0 0))) xl) := hD
      exact ⟨rfl, rfl, hP, hD, hS, lv_sub hl [1, 0] rfl⟩
  · refine lv_ldc hx hb hown (hts _ q1475) dX3_undo_7 ?_
    exact W.iret (v := -1000002) hx hb hr (fun t ht hW => ⟨⟨-1000002, (fi, cn, xl), rfl, (by unfold opUndo; rw [zif_t c_4]; exact ⟨rfl, ⟨hf0, hf8, hf12, hf19, hf29, hc1, hc2, hc3, hc4, hc7, hc11, hc26, hc27, hc28⟩, ⟨_, _, _, _, _, _, _, _, _, hc5, hc6, hc9, hc10, hc24, hc25, hc21, hc22, hf23⟩⟩), by rw [ht]; exact hP, hD⟩, hS.F ht⟩) hS.2.2 dX3_undo_9

set_option maxHeartbeats 4000000 in
set_option maxRecDepth 100000 in
theorem m_X3_word (l : Launch) (g : zG) (ad : Nat → Nat) (fi : Nat → Int32) (cn : Nat → Nat → Int32) (xl : Nat → Nat → Int64) (sz : Nat) (S : zS) (hM : MR S fi cn) (hX : MX fi cn xl) (hI : SI S) (hA24 : S.1 8 < 24) (s2 r2 n2 : Int32) : Met l yX3_word (ws_ yX3_word cX3_word 7 (some .int)) ({ frames := 3, cells := 0, slots := 0, locals := 71 }) (zPc g [.ref (ad 0), .int s2, .int r2, .int n2] (mH g ad fi cn xl sz)) (va_Qi (fun (r9 : Int32) u => r9 = (opWord S s2 r2 n2 ).1 ∧ MR (opWord S s2 r2 n2 ).2 u.1 u.2.1 ∧ MX u.1 u.2.1 u.2.2) (mB g ad sz) (mA ad sz)) 0 0 (mA ad sz) := by
  refine Met.ofW (cc := cX3_word) (maxL := 7) (ret := (some .int)) (by decide) rfl ?_
  intro p e s m args below meth c s₁ B0 hml hv
  obtain ⟨rfl, ⟨hK, hN⟩, hsz, hP, hD⟩ := hv
  have hx := B0.exec
  have hb := B0.bytes
  have hr := B0.returns
  have hts := atoms_spec (ws := ws_ yX3_word cX3_word 7 (some .int)) B0.pre
  have hts : ∀ w ∈ lw_all, w.before _ s = true := fun w h => hts w (List.mem_cons_of_mem _ h)
  have hown : s.vm.findClass RX3 = some m.cls := findClass_of_methodNamed B0.named
  have hlocks := B0.notSynchronized
  subst hsz
  have hD := mD_self s.heap.size hD
  have hS : va_S (mA ad s.heap.size) s.heap s.heap [] := va_S.rf
  have hl := lv_entry ([.ref (ad 0), .int s2, .int r2, .int n2]) (n := 7) (Nat.le_of_ble_eq_true rfl)
  rw [lg_entry_eq]
  generalize (lg_sl ([.ref (ad 0), .int s2, .int r2, .int n2]) ++ List.replicate (7 - (lg_sl ([.ref (ad 0), .int s2, .int r2, .int n2])).length) Slot.unset).toArray = ls at hl ⊢
  have hl : lv_has ls 7 [(0, .ref (ad 0)), (1, .int s2), (2, .int r2), (3, .int n2)] := hl
  obtain ⟨hf0, hf8, hf12, hf19, hf29, hc1, hc2, hc3, hc4, hc7, hc11, hc26, hc27, hc28⟩ := hM
  obtain ⟨F5, F6, F9, F10, F24, E25, N21, N22, b23, hc5, hc6, hc9, hc10, hc24, hc25, hc21, hc22, hf23⟩ := hX
  have hB : bOK (S.2.1 4) := hI.1
  have h0 : S.2.1 4 0 ≤ 4 := hB.n4
  have h3 : S.2.1 4 3 ≤ 8 := hB.r8
  have hac := hI.2.2.1
  have hta := hI.2.2.2.1
  have hmn := hI.2.2.2.2.2.2.1
  have htn := hI.2.2.2.2.2.1
  refine lv_aload_n hx hb dX3_word_0 rfl (lv_at hl 0 rfl) ?_
  refine lv_iload_n hx hb dX3_word_1 rfl (lv_at hl 1 rfl) ?_
  have hQ_2 : va_P g.1 zCL [(ad 0, .inr (3, mO ad fi)), (ad 4, .inl (g.2 0, 44, .inl (cn 4)))] _ := hP.sub [0, 4] rfl
  rw [show _ = _ from hc4] at hQ_2
  refine vp_callSi (W.runV (As := [.int s2]) (rest := []) ⟨hx, hb, hml, hown, hts⟩ (m_X3_isSort l g ad fi (S.2.1 4) hB s2) (cwV 1 hts (lw_V q1480 q1482 qs39 q69 q1483) rfl rfl rfl hdV_X3_isSort ⟨Nat.le_of_ble_eq_true rfl, Nat.le_of_ble_eq_true rfl⟩) (zpreV hK hN (va_recv hK hP (ci := 3) (q0 := 0) rfl rfl) hQ_2) rfl rfl hl.1 rfl (lv_room (Nat.le_of_ble_eq_true rfl)) dX3_word_2 ⟨Nat.le_of_ble_eq_true rfl, Nat.le_of_ble_eq_true rfl⟩) (fun r_2 hr_2 => ?_)
  subst hr_2
  refine zi_eqB (tgt := 27) hx hb dX3_word_5 (by decide) (fun c_5 => ?_) (fun c_5 => ?_)
  · refine lv_ldc hx hb hown (hts _ q1401) dX3_word_27 ?_
    exact W.iret (v := -1000001) hx hb hr (fun t ht hW => ⟨⟨-1000001, (fi, cn, xl), rfl, (by unfold opWord; rw [zif_f c_5]; exact ⟨rfl, ⟨hf0, hf8, hf12, hf19, hf29, hc1, hc2, hc3, hc4, hc7, hc11, hc26, hc27, hc28⟩, ⟨_, _, _, _, _, _, _, _, _, hc5, hc6, hc9, hc10, hc24, hc25, hc21, hc22, hf23⟩⟩), by rw [ht]; exact hP, hD⟩, hS.F ht⟩) hS.2.2 dX3_word_29
  · refine lv_iload_n hx hb dX3_word_8 rfl (lv_at hl 2 rfl) ?_
    refine vp_callSi (W.runS (As := [.int r2]) (rest := []) ⟨hx, hb, hml, hown, hts⟩ (m_X3_isRow l g r2) (va_cwS 1 hts (lw_S q1393 q1394 q69 q1395) rfl rfl rfl hdS_X3_isRow ⟨Nat.le_of_ble_eq_true rfl, Nat.le_of_ble_eq_true rfl⟩) (zpreS hK hN trivial) rfl rfl hl.1 rfl (lv_room (Nat.le_of_ble_eq_true rfl)) dX3_word_9 ⟨Nat.le_of_ble_eq_true rfl, Nat.le_of_ble_eq_true rfl⟩) (fun r_9 hr_9 => ?_)
    subst hr_9
    refine zi_eqB (tgt := 27) hx hb dX3_word_12 (by decide) (fun c_12 => ?_) (fun c_12 => ?_)
    · refine lv_ldc hx hb hown (hts _ q1401) dX3_word_27 ?_
      exact W.iret (v := -1000001) hx hb hr (fun t ht hW => ⟨⟨-1000001, (fi, cn, xl), rfl, (by unfold opWord; rw [zif_t c_5, zif_f c_12]; exact ⟨rfl, ⟨hf0, hf8, hf12, hf19, hf29, hc1, hc2, hc3, hc4, hc7, hc11, hc26, hc27, hc28⟩, ⟨_, _, _, _, _, _, _, _, _, hc5, hc6, hc9, hc10, hc24, hc25, hc21, hc22, hf23⟩⟩), by rw [ht]; exact hP, hD⟩, hS.F ht⟩) hS.2.2 dX3_word_29
    · refine lv_iload_n hx hb dX3_word_15 rfl (lv_at hl 3 rfl) ?_
      refine lv_i2l hx hb dX3_word_16 rfl ?_
      refine lv_lconst (v := lN 1) hx hb dX3_word_17 (by decide) ?_
      refine lv_ldc2 hx hb hown (hts _ q1484) dX3_word_18 ?_
      refine ztl (show (4 : Int64) = lN 4 from rfl) ?_
      refine vp_callSi (W.runS (As := [.long n2.toInt64, .long (lN 1), .long (lN 4)]) (rest := []) ⟨hx, hb, hml, hown, hts⟩ (m_X3_in l g n2.toInt64 (lN 1) (lN 4)) (va_cwS 3 hts (lw_S q1397 q1398 q69 q1399) rfl rfl rfl hdS_X3_in ⟨Nat.le_of_ble_eq_true rfl, Nat.le_of_ble_eq_true rfl⟩) (zpreS hK hN trivial) rfl rfl hl.1 rfl (lv_room (Nat.le_of_ble_eq_true rfl)) dX3_word_21 ⟨Nat.le_of_ble_eq_true rfl, Nat.le_of_ble_eq_true rfl⟩) (fun r_21 hr_21 => ?_)
      subst hr_21
      refine zti (show _ = zB (zIn n2 1 4) from zB_c (zIn_l n2 (by omega) (by omega))) ?_
      refine zi_neB (tgt := 30) hx hb dX3_word_24 (by decide) (fun c_24 => ?_) (fun c_24 => ?_)
      · obtain ⟨x, rfl, hu_x, hv_x⟩ := zIn_ex c_5 (by omega)
        obtain ⟨r, rfl, hu_r, hv_r⟩ := zIn_ex c_12 (by omega)
        obtain ⟨n, rfl, hu_n, hv_n⟩ := zIn_ex c_24 (by omega)
        have hx0 : x < S.2.1 4 0 := by omega
        have hmr := hmn r (by omega)
        refine lv_aload_n hx hb dX3_word_30 rfl (lv_at hl 0 rfl) ?_
        refine lv_iload_n hx hb dX3_word_31 rfl (lv_at hl 2 rfl) ?_
        refine lv_iload_n hx hb dX3_word_32 rfl (lv_at hl 3 rfl) ?_
        have hle_33 := hS.1
        refine va_calli (va_runV (As := [.int (nI r), .int (nI n)]) (rest := []) ⟨hx, hb, hml, hown, hts⟩ (m_X3_lacksLetters l g ad fi cn xl _ (S.2.2.1 1) (S.2.1 2) hc1 hc2 r n (by omega) (by omega) (by omega) (S.2.2.1 3) (S.2.1 4) hc3 hc4 hB) (cwV 2 hts (lw_V q1485 q1487 qs40 q69 q1488) rfl rfl rfl hdV_X3_lacksLetters ⟨Nat.le_of_ble_eq_true rfl, Nat.le_of_ble_eq_true rfl⟩) (zpreV hK hN (va_recv hK hP (ci := 3) (q0 := 0) rfl rfl) ⟨rfl, hP, hD.weaken (fun _ _ _ _ => trivial)⟩) rfl rfl hl.1 rfl (lv_room (Nat.le_of_ble_eq_true rfl)) dX3_word_33 ⟨Nat.le_of_ble_eq_true rfl, Nat.le_of_ble_eq_true rfl⟩) hS (fun q _ h => mA_le hS.1 q h) (mA_le hS.1) (fun r_33 u t H locs ht hvm hw_33 hB hzz hkk hS => ?_)
        obtain ⟨hP, hD⟩ := hB
        rw [ht] at hP
        have hD := hD.weaken (fun _ _ _ h => mA_le hle_33 _ h)
        obtain ⟨rfl, rfl⟩ := hw_33
        have hP : va_P g.1 zCL (mW g ad (va_up fi 0 (nI (zll (S.2.2.1 1) (S.2.1 2) (S.2.2.1 3) ((S.2.1 4) 0) r n))) cn xl) _ := hP
        have hD : va_D (mA ad s.heap.size) (mW g ad (va_up fi 0 (nI (zll (S.2.2.1 1) (S.2.1 2) (S.2.2.1 3) ((S.2.1 4) 0) r n))) cn xl) := hD
        by_cases hll : zll (S.2.2.1 1) (S.2.1 2) (S.2.2.1 3) (S.2.1 4 0) r n = 0
        · refine zti (show _ = nI 0 from by rw [hll, zres_0]) ?_
          have hlts := (zll_0 hll).2
          refine lv_istore (lv' := [(4, .int (nI 0)), (0, .ref (ad 0)), (1, .int (nI x)), (2, .int (nI r)), (3, .int (nI n))]) hx hb dX3_word_36 hl (by decide) rfl (fun ls hl => ?_)
          refine lv_iload hx hb dX3_word_38 (lv_at hl 0 rfl) ?_
          refine zi_eq (tgt := 46) hx hb (by omega) dX3_word_40 (by decide) (fun c_40 => ?_) (fun c_40 => ?_)
          · refine lv_aload_n hx hb dX3_word_46 rfl (lv_at hl 1 rfl) ?_
            have hle_47 := hS.1
            refine va_callv (va_runV (As := []) (rest := []) ⟨hx, hb, hml, hown, hts⟩ (m_X3_keeps l g ad (va_up fi 0 (nI (zll (S.2.2.1 1) (S.2.1 2) (S.2.2.1 3) ((S.2.1 4) 0) r n))) cn xl _ (S.2.1 4) (S.2.1 7) (S.1 8) hc4 hc7 hf8 (by omega)) (cwV 0 hts (lw_V q1493 q1495 qs42 q69 q1496) rfl rfl rfl hdV_X3_keeps ⟨Nat.le_of_ble_eq_true rfl, Nat.le_of_ble_eq_true rfl⟩) (zpreV hK hN (va_recv hK hP (ci := 3) (q0 := 0) rfl rfl) ⟨rfl, hP, hD.weaken (fun _ _ _ _ => trivial)⟩) rfl rfl hl.1 rfl (lv_room (Nat.le_of_ble_eq_true rfl)) dX3_word_47 ⟨Nat.le_of_ble_eq_true rfl, Nat.le_of_ble_eq_true rfl⟩) hS (fun q _ h => mA_le hS.1 q h) (mA_le hS.1) (fun u t H locs ht hvm hw_47 hB hzz hkk hS => ?_)
            obtain ⟨hP, hD⟩ := hB
            rw [ht] at hP
            have hD := hD.weaken (fun _ _ _ h => mA_le hle_47 _ h)
            obtain ⟨_, rfl⟩ := hw_47
            have hP : va_P g.1 zCL (mW g ad (va_up (va_up fi 0 (nI (zll (S.2.2.1 1) (S.2.1 2) (S.2.2.1 3) ((S.2.1 4) 0) r n))) 8 (nI (S.1 8 + 1))) (va_up cn 7 (nF (va_cpy (S.2.1 4) (S.2.1 7) 0 (44 * (S.1 8)) 44))) xl) _ := hP
            have hD : va_D (mA ad s.heap.size) (mW g ad (va_up (va_up fi 0 (nI (zll (S.2.2.1 1) (S.2.1 2) (S.2.2.1 3) ((S.2.1 4) 0) r n))) 8 (nI (S.1 8 + 1))) (va_up cn 7 (nF (va_cpy (S.2.1 4) (S.2.1 7) 0 (44 * (S.1 8)) 44))) xl) := hD
            refine lv_aload_n hx hb dX3_word_50 rfl (lv_at hl 1 rfl) ?_
            refine va_get (D := g.1) (ci := 3) (v := .ref (ad 4)) (C := RX3) (T := TX3) (N := 30) hx hb hts in_X3 hown hK hP 0 rfl rfl 4 (by decide) (hts _ q1301) (fun _ h9 => h9) rfl dX3_word_51 ?_
            refine lv_iload_n hx hb dX3_word_54 rfl (lv_at hl 2 rfl) ?_
            have hQ_55 : va_P g.1 zCL [(ad 4, .inl (g.2 0, 44, .inl (cn 4)))] _ := hP.sub [4] rfl
            rw [show _ = _ from hc4] at hQ_55
            refine vp_callSi (W.runS (As := [.ref (ad 4), .int (nI x)]) (rest := []) ⟨hx, hb, hml, hown, hts⟩ (m_X3_wordSize l g (ad 4) (S.2.1 4) x (by omega)) (va_cwS 2 hts (lw_S q1497 q1498 q69 q1499) rfl rfl rfl hdS_X3_wordSize ⟨Nat.le_of_ble_eq_true rfl, Nat.le_of_ble_eq_true rfl⟩) (zpreS hK hN hQ_55) rfl rfl hl.1 rfl (lv_room (Nat.le_of_ble_eq_true rfl)) dX3_word_55 ⟨Nat.le_of_ble_eq_true rfl, Nat.le_of_ble_eq_true rfl⟩) (fun r_55 hr_55 => ?_)
            subst hr_55
            refine lv_istore (lv' := [(5, .int (nI (bwl (S.2.1 4) x))), (4, .int (nI 0)), (0, .ref (ad 0)), (1, .int (nI x)), (2, .int (nI r)), (3, .int (nI n))]) hx hb dX3_word_58 hl (by decide) rfl (fun ls hl => ?_)
            refine lv_iconst (v := nI 0) hx hb dX3_word_60 (by decide) ?_
            refine lv_istore (lv' := [(6, .int (nI 0)), (5, .int (nI (bwl (S.2.1 4) x))), (4, .int (nI 0)), (0, .ref (ad 0)), (1, .int (nI x)), (2, .int (nI r)), (3, .int (nI n))]) hx hb dX3_word_61 hl (by decide) rfl (fun ls hl => ?_)
            refine zloopW (head := 63) (n) (fun k H locs cells slots ls => cells = 0 ∧ slots = 0 ∧ va_P g.1 zCL (mW g ad (va_up (va_up fi 0 (nI (zll (S.2.2.1 1) (S.2.1 2) (S.2.2.1 3) ((S.2.1 4) 0) r n))) 8 (nI (S.1 8 + 1))) (va_up (va_up cn 4 (nF (va_cpy (zits S r) (S.2.1 4) 0 (12 + 8 * x + 4) k))) 7 (nF (va_cpy (S.2.1 4) (S.2.1 7) 0 (44 * (S.1 8)) 44))) xl) H ∧ va_D (mA ad s.heap.size) (mW g ad (va_up (va_up fi 0 (nI (zll (S.2.2.1 1) (S.2.1 2) (S.2.2.1 3) ((S.2.1 4) 0) r n))) 8 (nI (S.1 8 + 1))) (va_up (va_up cn 4 (nF (va_cpy (zits S r) (S.2.1 4) 0 (12 + 8 * x + 4) k))) 7 (nF (va_cpy (S.2.1 4) (S.2.1 7) 0 (44 * (S.1 8)) 44))) xl) ∧ va_S (mA ad s.heap.size) s.heap H locs ∧ lv_has ls 7 [(0, .ref (ad 0)), (1, .int (nI x)), (2, .int (nI r)), (3, .int (nI n)), (5, .int (nI (bwl (S.2.1 4) x))), (6, .int (nI k))]) (fun k hv_k ih_63 H locs cells slots ls hI => ?_) 0 (Nat.zero_le _) ?_
            · obtain ⟨rfl, rfl, hP, hD, hS, hl⟩ := hI
              refine lv_iload hx hb dX3_word_63 (lv_at hl 5 rfl) ?_
              refine lv_iload_n hx hb dX3_word_65 rfl (lv_at hl 3 rfl) ?_
              refine zc_ge (tgt := 104) hx hb (by omega) (by omega) dX3_word_66 (by decide) (fun c_66 => ?_) (fun c_66 => ?_)
              · obtain rfl : n = k := by omega
                refine lv_aload_n hx hb dX3_word_104 rfl (lv_at hl 0 rfl) ?_
                refine va_get (D := g.1) (ci := 3) (v := .ref (ad 4)) (C := RX3) (T := TX3) (N := 30) hx hb hts in_X3 hown hK hP 0 rfl rfl 4 (by decide) (hts _ q1301) (fun _ h9 => h9) rfl dX3_word_105 ?_
                refine lv_bipush (v := nI 12) hx hb dX3_word_108 (by decide) ?_
                refine lv_bipush (v := nI 8) hx hb dX3_word_110 (by decide) ?_
                refine lv_iload_n hx hb dX3_word_112 rfl (lv_at hl 1 rfl) ?_
                refine lv_imul hx hb dX3_word_113 ?_
                refine zti (pk_mul 8 x) ?_
                refine lv_iadd hx hb dX3_word_114 ?_
                refine zti (nI_add 12 (8 * x)) ?_
                refine lv_iconst (v := nI 3) hx hb dX3_word_115 (by decide) ?_
                refine lv_iadd hx hb dX3_word_116 ?_
                refine zti (nI_add (12 + 8 * x) 3) ?_
                refine lv_iload_n hx hb dX3_word_117 rfl (lv_at hl 3 rfl) ?_
                refine zast (f := nF (va_cpy (zits S r) (S.2.1 4) 0 (12 + 8 * x + 4) n)) hx hb hK hP hD hS 4 0 rfl rfl (j := 12 + 8 * x + 3) (by omega) (by decide) dX3_word_118 (fun H locs hP hD hS => ?_)
                rw [nF_up] at hP hD
                have hP : va_P g.1 zCL (mW g ad (va_up (va_up fi 0 (nI (zll (S.2.2.1 1) (S.2.1 2) (S.2.2.1 3) ((S.2.1 4) 0) r n))) 8 (nI (S.1 8 + 1))) (va_up (va_up cn 4 (nF (va_up (va_cpy (zits S r) (S.2.1 4) 0 (12 + 8 * x + 4) n) (12 + 8 * x + 3) n))) 7 (nF (va_cpy (S.2.1 4) (S.2.1 7) 0 (44 * (S.1 8)) 44))) xl) _ := hP
                have hD : va_D (mA ad s.heap.size) (mW g ad (va_up (va_up fi 0 (nI (zll (S.2.2.1 1) (S.2.1 2) (S.2.2.1 3) ((S.2.1 4) 0) r n))) 8 (nI (S.1 8 + 1))) (va_up (va_up cn 4 (nF (va_up (va_cpy (zits S r) (S.2.1 4) 0 (12 + 8 * x + 4) n) (12 + 8 * x + 3) n))) 7 (nF (va_cpy (S.2.1 4) (S.2.1 7) 0 (44 * (S.1 8)) 44))) xl) := hD
                refine lv_iload hx hb dX3_word_119 (lv_at hl 4 rfl) ?_
                exact W.iret (v := nI (bwl (S.2.1 4) x)) hx hb hr (fun t ht hW => ⟨⟨nI (bwl (S.2.1 4) x), (va_up (va_up fi 0 (nI (zll (S.2.2.1 1) (S.2.1 2) (S.2.2.1 3) ((S.2.1 4) 0) r n))) 8 (nI (S.1 8 + 1)), va_up (va_up cn 4 (nF (va_up (va_cpy (zits S r) (S.2.1 4) 0 (12 + 8 * x + 4) n) (12 + 8 * x + 3) n))) 7 (nF (va_cpy (S.2.1 4) (S.2.1 7) 0 (44 * (S.1 8)) 44)), xl), rfl, (by unfold opWord; (try rw [zn_nI (n := x) (by omega)]); (try rw [zn_nI (n := r) (by omega)]); (try rw [zn_nI (n := n) (by omega)]); rw [zif_t c_5, zif_t c_12, zif_t c_24, zif_t hll]; exact ⟨rfl, ⟨(congrArg nI hll), rfl, hf12, hf19, hf29, hc1, hc2, hc3, rfl, rfl, hc11, hc26, hc27, hc28⟩, ⟨_, _, _, _, _, _, _, _, _, hc5, hc6, hc9, hc10, hc24, hc25, hc21, hc22, hf23⟩⟩), by rw [ht]; exact hP, hD⟩, hS.F ht⟩) hS.2.2 dX3_word_121
              · refine lv_aload_n hx hb dX3_word_69 rfl (lv_at hl 0 rfl) ?_
                refine va_get (D := g.1) (ci := 3) (v := .ref (ad 4)) (C := RX3) (T := TX3) (N := 30) hx hb hts in_X3 hown hK hP 0 rfl rfl 4 (by decide) (hts _ q1301) (fun _ h9 => h9) rfl dX3_word_70 ?_
                refine lv_bipush (v := nI 12) hx hb dX3_word_73 (by decide) ?_
                refine lv_bipush (v := nI 8) hx hb dX3_word_75 (by decide) ?_
                refine lv_iload_n hx hb dX3_word_77 rfl (lv_at hl 1 rfl) ?_
                refine lv_imul hx hb dX3_word_78 ?_
                refine zti (pk_mul 8 x) ?_
                refine lv_iadd hx hb dX3_word_79 ?_
                refine zti (nI_add 12 (8 * x)) ?_
                refine lv_iconst (v := nI 4) hx hb dX3_word_80 (by decide) ?_
                refine lv_iadd hx hb dX3_word_81 ?_
                refine zti (nI_add (12 + 8 * x) 4) ?_
                refine lv_iload hx hb dX3_word_82 (lv_at hl 5 rfl) ?_
                refine lv_iadd hx hb dX3_word_84 ?_
                refine zti (nI_add (12 + 8 * x + 4) k) ?_
                refine lv_aload_n hx hb dX3_word_85 rfl (lv_at hl 0 rfl) ?_
                refine va_get (D := g.1) (ci := 3) (v := .ref (ad 3)) (C := RX3) (T := TX3) (N := 30) hx hb hts in_X3 hown hK hP 0 rfl rfl 3 (by decide) (hts _ q1300) (fun _ h9 => h9) rfl dX3_word_86 ?_
                refine lv_bipush (v := nI 40) hx hb dX3_word_89 (by decide) ?_
                refine lv_iload_n hx hb dX3_word_91 rfl (lv_at hl 2 rfl) ?_
                refine lv_imul hx hb dX3_word_92 ?_
                refine zti (pk_mul 40 r) ?_
                refine lv_iload hx hb dX3_word_93 (lv_at hl 5 rfl) ?_
                refine lv_iadd hx hb dX3_word_95 ?_
                refine zti (nI_add (40 * r) k) ?_
                refine zald hx hb hK hP 3 0 rfl rfl (j := 40 * r + k) (by omega) (by decide) dX3_word_96 ?_
                refine zti (congrFun hc3 _) ?_
                refine zti (show _ = nI (zits S r k) from zn_eq (hlts k (by omega)).1) ?_
                refine zast (f := nF (va_cpy (zits S r) (S.2.1 4) 0 (12 + 8 * x + 4) k)) hx hb hK hP hD hS 4 0 rfl rfl (j := 12 + 8 * x + 4 + k) (by omega) (by decide) dX3_word_97 (fun H locs hP hD hS => ?_)
                rw [nF_up] at hP hD
                have hP : va_P g.1 zCL (mW g ad (va_up (va_up fi 0 (nI (zll (S.2.2.1 1) (S.2.1 2) (S.2.2.1 3) ((S.2.1 4) 0) r n))) 8 (nI (S.1 8 + 1))) (va_up (va_up cn 4 (nF (va_up (va_cpy (zits S r) (S.2.1 4) 0 (12 + 8 * x + 4) k) (12 + 8 * x + 4 + k) (zits S r k)))) 7 (nF (va_cpy (S.2.1 4) (S.2.1 7) 0 (44 * (S.1 8)) 44))) xl) _ := hP
                have hD : va_D (mA ad s.heap.size) (mW g ad (va_up (va_up fi 0 (nI (zll (S.2.2.1 1) (S.2.1 2) (S.2.2.1 3) ((S.2.1 4) 0) r n))) 8 (nI (S.1 8 + 1))) (va_up (va_up cn 4 (nF (va_up (va_cpy (zits S r) (S.2.1 4) 0 (12 + 8 * x + 4) k) (12 + 8 * x + 4 + k) (zits S r k)))) 7 (nF (va_cpy (S.2.1 4) (S.2.1 7) 0 (44 * (S.1 8)) 44))) xl) := hD
                refine lv_iinc (v := nI (k + 1)) (lv' := [(6, .int (nI (k + 1))), (0, .ref (ad 0)), (1, .int (nI x)), (2, .int (nI r)), (3, .int (nI n)), (5, .int (nI (bwl (S.2.1 4) x)))]) hx hb dX3_word_98 hl (k := 5) rfl (nI_add k 1) (by decide) rfl (fun ls hl => ?_)
                refine lv_goto (tgt := 63) hx hb dX3_word_101 (by decide) ?_
                rw [show va_up (va_cpy (zits S r) (S.2.1 4) 0 (12 + 8 * x + 4) k) (12 + 8 * x + 4 + k) (zits S r k) = va_cpy (zits S r) (S.2.1 4) 0 (12 + 8 * x + 4) (k + 1) by have := zcpy_s (zits S r) (S.2.1 4) 0 (12 + 8 * x + 4) k; rw [Nat.zero_add] at this; exact this] at hP hD
                exact ih_63 (by omega) _ _ _ _ _ ⟨rfl, rfl, hP, hD, hS, lv_sub hl [1, 2, 3, 4, 5, 0] rfl⟩
            · rw [mW_up (cn := va_up cn 7 (nF (va_cpy (S.2.1 4) (S.2.1 7) 0 (44 * (S.1 8)) 44))) (k := 4) (f := nF (va_cpy (zits S r) (S.2.1 4) 0 (12 + 8 * x + 4) 0)) (by rw [zcpy_0]; exact hc4)] at hP
              rw [mW_up (cn := va_up cn 7 (nF (va_cpy (S.2.1 4) (S.2.1 7) 0 (44 * (S.1 8)) 44))) (k := 4) (f := nF (va_cpy (zits S r) (S.2.1 4) 0 (12 + 8 * x + 4) 0)) (by rw [zcpy_0]; exact hc4)] at hD
              have hP : va_P g.1 zCL (mW g ad (va_up (va_up fi 0 (nI (zll (S.2.2.1 1) (S.2.1 2) (S.2.2.1 3) ((S.2.1 4) 0) r n))) 8 (nI (S.1 8 + 1))) (va_up (va_up cn 4 (nF (va_cpy (zits S r) (S.2.1 4) 0 (12 + 8 * x + 4) 0))) 7 (nF (va_cpy (S.2.1 4) (S.2.1 7) 0 (44 * (S.1 8)) 44))) xl) _ := hP
              have hD : va_D (mA ad s.heap.size) (mW g ad (va_up (va_up fi 0 (nI (zll (S.2.2.1 1) (S.2.1 2) (S.2.2.1 3) ((S.2.1 4) 0) r n))) 8 (nI (S.1 8 + 1))) (va_up (va_up cn 4 (nF (va_cpy (zits S r) (S.2.1 4) 0 (12 + 8 * x + 4) 0))) 7 (nF (va_cpy (S.2.1 4) (S.2.1 7) 0 (44 * (S.1 8)) 44))) xl) := hD
              exact ⟨rfl, rfl, hP, hD, hS, lv_sub hl [3, 4, 5, 6, 1, 0] rfl⟩
          · exact absurd rfl c_40
        · have hne := zres_ne hll (zll_le (S.2.2.1 1) (S.2.1 2) (S.2.2.1 3) (S.2.1 4 0) r n)
          refine lv_istore (lv' := [(4, .int (zres (zll (S.2.2.1 1) (S.2.1 2) (S.2.2.1 3) ((S.2.1 4) 0) r n))), (0, .ref (ad 0)), (1, .int (nI x)), (2, .int (nI r)), (3, .int (nI n))]) hx hb dX3_word_36 hl (by decide) rfl (fun ls hl => ?_)
          refine lv_iload hx hb dX3_word_38 (lv_at hl 0 rfl) ?_
          refine lv_if_eq (tgt := 46) hx hb dX3_word_40 (by decide) (fun c_40 => ?_) (fun c_40 => ?_)
          · exact absurd c_40 hne
          · refine lv_iload hx hb dX3_word_43 (lv_at hl 0 rfl) ?_
            exact W.iret (v := zres (zll (S.2.2.1 1) (S.2.1 2) (S.2.2.1 3) ((S.2.1 4) 0) r n)) hx hb hr (fun t ht hW => ⟨⟨zres (zll (S.2.2.1 1) (S.2.1 2) (S.2.2.1 3) ((S.2.1 4) 0) r n), (va_up fi 0 (nI (zll (S.2.2.1 1) (S.2.1 2) (S.2.2.1 3) ((S.2.1 4) 0) r n)), cn, xl), rfl, (by unfold opWord; (try rw [zn_nI (n := x) (by omega)]); (try rw [zn_nI (n := r) (by omega)]); (try rw [zn_nI (n := n) (by omega)]); rw [zif_t c_5, zif_t c_12, zif_t c_24, zif_f hll]; exact ⟨rfl, ⟨rfl, hf8, hf12, hf19, hf29, hc1, hc2, hc3, hc4, hc7, hc11, hc26, hc27, hc28⟩, ⟨_, _, _, _, _, _, _, _, _, hc5, hc6, hc9, hc10, hc24, hc25, hc21, hc22, hf23⟩⟩), by rw [ht]; exact hP, hD⟩, hS.F ht⟩) hS.2.2 dX3_word_45
      · refine lv_ldc hx hb hown (hts _ q1401) dX3_word_27 ?_
        exact W.iret (v := -1000001) hx hb hr (fun t ht hW => ⟨⟨-1000001, (fi, cn, xl), rfl, (by unfold opWord; rw [zif_t c_5, zif_t c_12, zif_f c_24]; exact ⟨rfl, ⟨hf0, hf8, hf12, hf19, hf29, hc1, hc2, hc3, hc4, hc7, hc11, hc26, hc27, hc28⟩, ⟨_, _, _, _, _, _, _, _, _, hc5, hc6, hc9, hc10, hc24, hc25, hc21, hc22, hf23⟩⟩), by rw [ht]; exact hP, hD⟩, hS.F ht⟩) hS.2.2 dX3_word_29

set_option maxHeartbeats 4000000 in
set_option maxRecDepth 100000 in
theorem m_X3_length (l : Launch) (g : zG) (ad : Nat → Nat) (fi : Nat → Int32) (cn : Nat → Nat → Int32) (xl : Nat → Nat → Int64) (sz : Nat) (S : zS) (hM : MR S fi cn) (hX : MX fi cn xl) (hI : SI S) (hA24 : S.1 8 < 24) (s2 w2 v2 : Int32) : Met l yX3_length (ws_ yX3_length cX3_length 5 (some .int)) ({ frames := 2, cells := 0, slots := 0, locals := 46 }) (zPc g [.ref (ad 0), .int s2, .int w2, .int v2] (mH g ad fi cn xl sz)) (va_Qi (fun (r9 : Int32) u => r9 = (opLength S s2 w2 v2 ).1 ∧ MR (opLength S s2 w2 v2 ).2 u.1 u.2.1 ∧ MX u.1 u.2.1 u.2.2) (mB g ad sz) (mA ad sz)) 0 0 (mA ad sz) := by
  refine Met.ofW (cc := cX3_length) (maxL := 5) (ret := (some .int)) (by decide) rfl ?_
  intro p e s m args below meth c s₁ B0 hml hv
  obtain ⟨rfl, ⟨hK, hN⟩, hsz, hP, hD⟩ := hv
  have hx := B0.exec
  have hb := B0.bytes
  have hr := B0.returns
  have hts := atoms_spec (ws := ws_ yX3_length cX3_length 5 (some .int)) B0.pre
  have hts : ∀ w ∈ lw_all, w.before _ s = true := fun w h => hts w (List.mem_cons_of_mem _ h)
  have hown : s.vm.findClass RX3 = some m.cls := findClass_of_methodNamed B0.named
  have hlocks := B0.notSynchronized
  subst hsz
  have hD := mD_self s.heap.size hD
  have hS : va_S (mA ad s.heap.size) s.heap s.heap [] := va_S.rf
  have hl := lv_entry ([.ref (ad 0), .int s2, .int w2, .int v2]) (n := 5) (Nat.le_of_ble_eq_true rfl)
  rw [lg_entry_eq]
  generalize (lg_sl ([.ref (ad 0), .int s2, .int w2, .int v2]) ++ List.replicate (5 - (lg_sl ([.ref (ad 0), .int s2, .int w2, .int v2])).length) Slot.unset).toArray = ls at hl ⊢
  have hl : lv_has ls 5 [(0, .ref (ad 0)), (1, .int s2), (2, .int w2), (3, .int v2)] := hl
  obtain ⟨hf0, hf8, hf12, hf19, hf29, hc1, hc2, hc3, hc4, hc7, hc11, hc26, hc27, hc28⟩ := hM
  obtain ⟨F5, F6, F9, F10, F24, E25, N21, N22, b23, hc5, hc6, hc9, hc10, hc24, hc25, hc21, hc22, hf23⟩ := hX
  have hB : bOK (S.2.1 4) := hI.1
  have h0 : S.2.1 4 0 ≤ 4 := hB.n4
  have h3 : S.2.1 4 3 ≤ 8 := hB.r8
  have hac := hI.2.2.1
  have hta := hI.2.2.2.1
  have hmn := hI.2.2.2.2.2.2.1
  have htn := hI.2.2.2.2.2.1
  refine lv_aload_n hx hb dX3_length_0 rfl (lv_at hl 0 rfl) ?_
  refine lv_iload_n hx hb dX3_length_1 rfl (lv_at hl 1 rfl) ?_
  have hQ_2 : va_P g.1 zCL [(ad 0, .inr (3, mO ad fi)), (ad 4, .inl (g.2 0, 44, .inl (cn 4)))] _ := hP.sub [0, 4] rfl
  rw [show _ = _ from hc4] at hQ_2
  refine vp_callSi (W.runV (As := [.int s2]) (rest := []) ⟨hx, hb, hml, hown, hts⟩ (m_X3_isSort l g ad fi (S.2.1 4) hB s2) (cwV 1 hts (lw_V q1480 q1482 qs39 q69 q1483) rfl rfl rfl hdV_X3_isSort ⟨Nat.le_of_ble_eq_true rfl, Nat.le_of_ble_eq_true rfl⟩) (zpreV hK hN (va_recv hK hP (ci := 3) (q0 := 0) rfl rfl) hQ_2) rfl rfl hl.1 rfl (lv_room (Nat.le_of_ble_eq_true rfl)) dX3_length_2 ⟨Nat.le_of_ble_eq_true rfl, Nat.le_of_ble_eq_true rfl⟩) (fun r_2 hr_2 => ?_)
  subst hr_2
  refine zi_eqB (tgt := 30) hx hb dX3_length_5 (by decide) (fun c_5 => ?_) (fun c_5 => ?_)
  · refine lv_ldc hx hb hown (hts _ q1401) dX3_length_30 ?_
    exact W.iret (v := -1000001) hx hb hr (fun t ht hW => ⟨⟨-1000001, (fi, cn, xl), rfl, (by unfold opLength; rw [zif_f c_5]; exact ⟨rfl, ⟨hf0, hf8, hf12, hf19, hf29, hc1, hc2, hc3, hc4, hc7, hc11, hc26, hc27, hc28⟩, ⟨_, _, _, _, _, _, _, _, _, hc5, hc6, hc9, hc10, hc24, hc25, hc21, hc22, hf23⟩⟩), by rw [ht]; exact hP, hD⟩, hS.F ht⟩) hS.2.2 dX3_length_32
  · refine lv_iload_n hx hb dX3_length_8 rfl (lv_at hl 2 rfl) ?_
    refine lv_i2l hx hb dX3_length_9 rfl ?_
    refine lv_lconst (v := lN 0) hx hb dX3_length_10 (by decide) ?_
    refine lv_lconst (v := lN 1) hx hb dX3_length_11 (by decide) ?_
    refine vp_callSi (W.runS (As := [.long w2.toInt64, .long (lN 0), .long (lN 1)]) (rest := []) ⟨hx, hb, hml, hown, hts⟩ (m_X3_in l g w2.toInt64 (lN 0) (lN 1)) (va_cwS 3 hts (lw_S q1397 q1398 q69 q1399) rfl rfl rfl hdS_X3_in ⟨Nat.le_of_ble_eq_true rfl, Nat.le_of_ble_eq_true rfl⟩) (zpreS hK hN trivial) rfl rfl hl.1 rfl (lv_room (Nat.le_of_ble_eq_true rfl)) dX3_length_12 ⟨Nat.le_of_ble_eq_true rfl, Nat.le_of_ble_eq_true rfl⟩) (fun r_12 hr_12 => ?_)
    subst hr_12
    refine zti (show _ = zB (zIn w2 0 1) from zB_c (zIn_l w2 (by omega) (by omega))) ?_
    refine zi_eqB (tgt := 30) hx hb dX3_length_15 (by decide) (fun c_15 => ?_) (fun c_15 => ?_)
    · refine lv_ldc hx hb hown (hts _ q1401) dX3_length_30 ?_
      exact W.iret (v := -1000001) hx hb hr (fun t ht hW => ⟨⟨-1000001, (fi, cn, xl), rfl, (by unfold opLength; rw [zif_t c_5, zif_f c_15]; exact ⟨rfl, ⟨hf0, hf8, hf12, hf19, hf29, hc1, hc2, hc3, hc4, hc7, hc11, hc26, hc27, hc28⟩, ⟨_, _, _, _, _, _, _, _, _, hc5, hc6, hc9, hc10, hc24, hc25, hc21, hc22, hf23⟩⟩), by rw [ht]; exact hP, hD⟩, hS.F ht⟩) hS.2.2 dX3_length_32
    · refine lv_iload_n hx hb dX3_length_18 rfl (lv_at hl 3 rfl) ?_
      refine lv_i2l hx hb dX3_length_19 rfl ?_
      refine lv_lconst (v := lN 0) hx hb dX3_length_20 (by decide) ?_
      refine lv_ldc2 hx hb hown (hts _ q1504) dX3_length_21 ?_
      refine ztl (show (9 : Int64) = lN 9 from rfl) ?_
      refine vp_callSi (W.runS (As := [.long v2.toInt64, .long (lN 0), .long (lN 9)]) (rest := []) ⟨hx, hb, hml, hown, hts⟩ (m_X3_in l g v2.toInt64 (lN 0) (lN 9)) (va_cwS 3 hts (lw_S q1397 q1398 q69 q1399) rfl rfl rfl hdS_X3_in ⟨Nat.le_of_ble_eq_true rfl, Nat.le_of_ble_eq_true rfl⟩) (zpreS hK hN trivial) rfl rfl hl.1 rfl (lv_room (Nat.le_of_ble_eq_true rfl)) dX3_length_24 ⟨Nat.le_of_ble_eq_true rfl, Nat.le_of_ble_eq_true rfl⟩) (fun r_24 hr_24 => ?_)
      subst hr_24
      refine zti (show _ = zB (zIn v2 0 9) from zB_c (zIn_l v2 (by omega) (by omega))) ?_
      refine zi_neB (tgt := 33) hx hb dX3_length_27 (by decide) (fun c_27 => ?_) (fun c_27 => ?_)
      · obtain ⟨x, rfl, hu_x, hv_x⟩ := zIn_ex c_5 (by omega)
        obtain ⟨w, rfl, hu_w, hv_w⟩ := zIn_ex c_15 (by omega)
        obtain ⟨v, rfl, hu_v, hv_v⟩ := zIn_ex c_27 (by omega)
        have hx0 : x < S.2.1 4 0 := by omega
        refine lv_aload_n hx hb dX3_length_33 rfl (lv_at hl 0 rfl) ?_
        have hle_34 := hS.1
        refine va_callv (va_runV (As := []) (rest := []) ⟨hx, hb, hml, hown, hts⟩ (m_X3_keeps l g ad fi cn xl _ (S.2.1 4) (S.2.1 7) (S.1 8) hc4 hc7 hf8 (by omega)) (cwV 0 hts (lw_V q1493 q1495 qs42 q69 q1496) rfl rfl rfl hdV_X3_keeps ⟨Nat.le_of_ble_eq_true rfl, Nat.le_of_ble_eq_true rfl⟩) (zpreV hK hN (va_recv hK hP (ci := 3) (q0 := 0) rfl rfl) ⟨rfl, hP, hD.weaken (fun _ _ _ _ => trivial)⟩) rfl rfl hl.1 rfl (lv_room (Nat.le_of_ble_eq_true rfl)) dX3_length_34 ⟨Nat.le_of_ble_eq_true rfl, Nat.le_of_ble_eq_true rfl⟩) hS (fun q _ h => mA_le hS.1 q h) (mA_le hS.1) (fun u t H locs ht hvm hw_34 hB hzz hkk hS => ?_)
        obtain ⟨hP, hD⟩ := hB
        rw [ht] at hP
        have hD := hD.weaken (fun _ _ _ h => mA_le hle_34 _ h)
        obtain ⟨_, rfl⟩ := hw_34
        have hP : va_P g.1 zCL (mW g ad (va_up fi 8 (nI (S.1 8 + 1))) (va_up cn 7 (nF (va_cpy (S.2.1 4) (S.2.1 7) 0 (44 * (S.1 8)) 44))) xl) _ := hP
        have hD : va_D (mA ad s.heap.size) (mW g ad (va_up fi 8 (nI (S.1 8 + 1))) (va_up cn 7 (nF (va_cpy (S.2.1 4) (S.2.1 7) 0 (44 * (S.1 8)) 44))) xl) := hD
        refine lv_aload_n hx hb dX3_length_37 rfl (lv_at hl 0 rfl) ?_
        refine va_get (D := g.1) (ci := 3) (v := .ref (ad 4)) (C := RX3) (T := TX3) (N := 30) hx hb hts in_X3 hown hK hP 0 rfl rfl 4 (by decide) (hts _ q1301) (fun _ h9 => h9) rfl dX3_length_38 ?_
        refine lv_bipush (v := nI 12) hx hb dX3_length_41 (by decide) ?_
        refine lv_bipush (v := nI 8) hx hb dX3_length_43 (by decide) ?_
        refine lv_iload_n hx hb dX3_length_45 rfl (lv_at hl 1 rfl) ?_
        refine lv_imul hx hb dX3_length_46 ?_
        refine zti (pk_mul 8 x) ?_
        refine lv_iadd hx hb dX3_length_47 ?_
        refine zti (nI_add 12 (8 * x)) ?_
        refine lv_iconst (v := nI 1) hx hb dX3_length_48 (by decide) ?_
        refine lv_iadd hx hb dX3_length_49 ?_
        refine zti (nI_add (12 + 8 * x) 1) ?_
        refine lv_iload_n hx hb dX3_length_50 rfl (lv_at hl 2 rfl) ?_
        refine lv_iadd hx hb dX3_length_51 ?_
        refine zti (nI_add (12 + 8 * x + 1) w) ?_
        refine zald hx hb hK hP 4 0 rfl rfl (j := 12 + 8 * x + 1 + w) (by omega) (by decide) dX3_length_52 ?_
        refine zti (congrFun hc4 _) ?_
        refine zti (show (nF (S.2.1 4)) (12 + 8 * x + 1 + w) = nI ((S.2.1 4) (12 + 8 * x + 1 + w)) from rfl) ?_
        refine lv_istore (lv' := [(4, .int (nI ((S.2.1 4) (12 + 8 * x + 1 + w)))), (0, .ref (ad 0)), (1, .int (nI x)), (2, .int (nI w)), (3, .int (nI v))]) hx hb dX3_length_53 hl (by decide) rfl (fun ls hl => ?_)
        refine lv_aload_n hx hb dX3_length_55 rfl (lv_at hl 1 rfl) ?_
        refine va_get (D := g.1) (ci := 3) (v := .ref (ad 4)) (C := RX3) (T := TX3) (N := 30) hx hb hts in_X3 hown hK hP 0 rfl rfl 4 (by decide) (hts _ q1301) (fun _ h9 => h9) rfl dX3_length_56 ?_
        refine lv_bipush (v := nI 12) hx hb dX3_length_59 (by decide) ?_
        refine lv_bipush (v := nI 8) hx hb dX3_length_61 (by decide) ?_
        refine lv_iload_n hx hb dX3_length_63 rfl (lv_at hl 2 rfl) ?_
        refine lv_imul hx hb dX3_length_64 ?_
        refine zti (pk_mul 8 x) ?_
        refine lv_iadd hx hb dX3_length_65 ?_
        refine zti (nI_add 12 (8 * x)) ?_
        refine lv_iconst (v := nI 1) hx hb dX3_length_66 (by decide) ?_
        refine lv_iadd hx hb dX3_length_67 ?_
        refine zti (nI_add (12 + 8 * x) 1) ?_
        refine lv_iload_n hx hb dX3_length_68 rfl (lv_at hl 3 rfl) ?_
        refine lv_iadd hx hb dX3_length_69 ?_
        refine zti (nI_add (12 + 8 * x + 1) w) ?_
        refine lv_iload_n hx hb dX3_length_70 rfl (lv_at hl 4 rfl) ?_
        refine zast (f := cn 4) hx hb hK hP hD hS 4 0 rfl rfl (j := 12 + 8 * x + 1 + w) (by omega) (by decide) dX3_length_71 (fun H locs hP hD hS => ?_)
        rw [hc4] at hP hD
        rw [nF_up] at hP hD
        have hP : va_P g.1 zCL (mW g ad (va_up fi 8 (nI (S.1 8 + 1))) (va_up (va_up cn 4 (nF (va_up (S.2.1 4) (12 + 8 * x + 1 + w) v))) 7 (nF (va_cpy (S.2.1 4) (S.2.1 7) 0 (44 * (S.1 8)) 44))) xl) _ := hP
        have hD : va_D (mA ad s.heap.size) (mW g ad (va_up fi 8 (nI (S.1 8 + 1))) (va_up (va_up cn 4 (nF (va_up (S.2.1 4) (12 + 8 * x + 1 + w) v))) 7 (nF (va_cpy (S.2.1 4) (S.2.1 7) 0 (44 * (S.1 8)) 44))) xl) := hD
        refine lv_iload hx hb dX3_length_72 (lv_at hl 0 rfl) ?_
        exact W.iret (v := nI ((S.2.1 4) (12 + 8 * x + 1 + w))) hx hb hr (fun t ht hW => ⟨⟨nI ((S.2.1 4) (12 + 8 * x + 1 + w)), (va_up fi 8 (nI (S.1 8 + 1)), va_up (va_up cn 4 (nF (va_up (S.2.1 4) (12 + 8 * x + 1 + w) v))) 7 (nF (va_cpy (S.2.1 4) (S.2.1 7) 0 (44 * (S.1 8)) 44)), xl), rfl, (by unfold opLength; (try rw [zn_nI (n := x) (by omega)]); (try rw [zn_nI (n := w) (by omega)]); (try rw [zn_nI (n := v) (by omega)]); rw [zif_t c_5, zif_t c_15, zif_t c_27]; exact ⟨rfl, ⟨hf0, rfl, hf12, hf19, hf29, hc1, hc2, hc3, rfl, rfl, hc11, hc26, hc27, hc28⟩, ⟨_, _, _, _, _, _, _, _, _, hc5, hc6, hc9, hc10, hc24, hc25, hc21, hc22, hf23⟩⟩), by rw [ht]; exact hP, hD⟩, hS.F ht⟩) hS.2.2 dX3_length_74
      · refine lv_ldc hx hb hown (hts _ q1401) dX3_length_30 ?_
        exact W.iret (v := -1000001) hx hb hr (fun t ht hW => ⟨⟨-1000001, (fi, cn, xl), rfl, (by unfold opLength; rw [zif_t c_5, zif_t c_15, zif_f c_27]; exact ⟨rfl, ⟨hf0, hf8, hf12, hf19, hf29, hc1, hc2, hc3, hc4, hc7, hc11, hc26, hc27, hc28⟩, ⟨_, _, _, _, _, _, _, _, _, hc5, hc6, hc9, hc10, hc24, hc25, hc21, hc22, hf23⟩⟩), by rw [ht]; exact hP, hD⟩, hS.F ht⟩) hS.2.2 dX3_length_32

set_option maxHeartbeats 4000000 in
set_option maxRecDepth 100000 in
theorem m_X3_become (l : Launch) (g : zG) (ad : Nat → Nat) (fi : Nat → Int32) (cn : Nat → Nat → Int32) (xl : Nat → Nat → Int64) (sz : Nat) (S : zS) (hM : MR S fi cn) (hX : MX fi cn xl) (hI : SI S) (hA24 : S.1 8 < 24) (s2 k2 : Int32) : Met l yX3_become (ws_ yX3_become cX3_become 4 (some .int)) ({ frames := 2, cells := 0, slots := 0, locals := 46 }) (zPc g [.ref (ad 0), .int s2, .int k2] (mH g ad fi cn xl sz)) (va_Qi (fun (r9 : Int32) u => r9 = (opBecome S s2 k2 ).1 ∧ MR (opBecome S s2 k2 ).2 u.1 u.2.1 ∧ MX u.1 u.2.1 u.2.2) (mB g ad sz) (mA ad sz)) 0 0 (mA ad sz) := by
  refine Met.ofW (cc := cX3_become) (maxL := 4) (ret := (some .int)) (by decide) rfl ?_
  intro p e s m args below meth c s₁ B0 hml hv
  obtain ⟨rfl, ⟨hK, hN⟩, hsz, hP, hD⟩ := hv
  have hx := B0.exec
  have hb := B0.bytes
  have hr := B0.returns
  have hts := atoms_spec (ws := ws_ yX3_become cX3_become 4 (some .int)) B0.pre
  have hts : ∀ w ∈ lw_all, w.before _ s = true := fun w h => hts w (List.mem_cons_of_mem _ h)
  have hown : s.vm.findClass RX3 = some m.cls := findClass_of_methodNamed B0.named
  have hlocks := B0.notSynchronized
  subst hsz
  have hD := mD_self s.heap.size hD
  have hS : va_S (mA ad s.heap.size) s.heap s.heap [] := va_S.rf
  have hl := lv_entry ([.ref (ad 0), .int s2, .int k2]) (n := 4) (Nat.le_of_ble_eq_true rfl)
  rw [lg_entry_eq]
  generalize (lg_sl ([.ref (ad 0), .int s2, .int k2]) ++ List.replicate (4 - (lg_sl ([.ref (ad 0), .int s2, .int k2])).length) Slot.unset).toArray = ls at hl ⊢
  have hl : lv_has ls 4 [(0, .ref (ad 0)), (1, .int s2), (2, .int k2)] := hl
  obtain ⟨hf0, hf8, hf12, hf19, hf29, hc1, hc2, hc3, hc4, hc7, hc11, hc26, hc27, hc28⟩ := hM
  obtain ⟨F5, F6, F9, F10, F24, E25, N21, N22, b23, hc5, hc6, hc9, hc10, hc24, hc25, hc21, hc22, hf23⟩ := hX
  have hB : bOK (S.2.1 4) := hI.1
  have h0 : S.2.1 4 0 ≤ 4 := hB.n4
  have h3 : S.2.1 4 3 ≤ 8 := hB.r8
  have hac := hI.2.2.1
  have hta := hI.2.2.2.1
  have hmn := hI.2.2.2.2.2.2.1
  have htn := hI.2.2.2.2.2.1
  refine lv_aload_n hx hb dX3_become_0 rfl (lv_at hl 0 rfl) ?_
  refine lv_iload_n hx hb dX3_become_1 rfl (lv_at hl 1 rfl) ?_
  have hQ_2 : va_P g.1 zCL [(ad 0, .inr (3, mO ad fi)), (ad 4, .inl (g.2 0, 44, .inl (cn 4)))] _ := hP.sub [0, 4] rfl
  rw [show _ = _ from hc4] at hQ_2
  refine vp_callSi (W.runV (As := [.int s2]) (rest := []) ⟨hx, hb, hml, hown, hts⟩ (m_X3_isSort l g ad fi (S.2.1 4) hB s2) (cwV 1 hts (lw_V q1480 q1482 qs39 q69 q1483) rfl rfl rfl hdV_X3_isSort ⟨Nat.le_of_ble_eq_true rfl, Nat.le_of_ble_eq_true rfl⟩) (zpreV hK hN (va_recv hK hP (ci := 3) (q0 := 0) rfl rfl) hQ_2) rfl rfl hl.1 rfl (lv_room (Nat.le_of_ble_eq_true rfl)) dX3_become_2 ⟨Nat.le_of_ble_eq_true rfl, Nat.le_of_ble_eq_true rfl⟩) (fun r_2 hr_2 => ?_)
  subst hr_2
  refine zi_eqB (tgt := 20) hx hb dX3_become_5 (by decide) (fun c_5 => ?_) (fun c_5 => ?_)
  · refine lv_ldc hx hb hown (hts _ q1401) dX3_become_20 ?_
    exact W.iret (v := -1000001) hx hb hr (fun t ht hW => ⟨⟨-1000001, (fi, cn, xl), rfl, (by unfold opBecome; rw [zif_f c_5]; exact ⟨rfl, ⟨hf0, hf8, hf12, hf19, hf29, hc1, hc2, hc3, hc4, hc7, hc11, hc26, hc27, hc28⟩, ⟨_, _, _, _, _, _, _, _, _, hc5, hc6, hc9, hc10, hc24, hc25, hc21, hc22, hf23⟩⟩), by rw [ht]; exact hP, hD⟩, hS.F ht⟩) hS.2.2 dX3_become_22
  · refine lv_iload_n hx hb dX3_become_8 rfl (lv_at hl 2 rfl) ?_
    refine lv_i2l hx hb dX3_become_9 rfl ?_
    refine lv_lconst (v := lN 1) hx hb dX3_become_10 (by decide) ?_
    refine lv_ldc2 hx hb hown (hts _ q1509) dX3_become_11 ?_
    refine ztl (show (5 : Int64) = lN 5 from rfl) ?_
    refine vp_callSi (W.runS (As := [.long k2.toInt64, .long (lN 1), .long (lN 5)]) (rest := []) ⟨hx, hb, hml, hown, hts⟩ (m_X3_in l g k2.toInt64 (lN 1) (lN 5)) (va_cwS 3 hts (lw_S q1397 q1398 q69 q1399) rfl rfl rfl hdS_X3_in ⟨Nat.le_of_ble_eq_true rfl, Nat.le_of_ble_eq_true rfl⟩) (zpreS hK hN trivial) rfl rfl hl.1 rfl (lv_room (Nat.le_of_ble_eq_true rfl)) dX3_become_14 ⟨Nat.le_of_ble_eq_true rfl, Nat.le_of_ble_eq_true rfl⟩) (fun r_14 hr_14 => ?_)
    subst hr_14
    refine zti (show _ = zB (zIn k2 1 5) from zB_c (zIn_l k2 (by omega) (by omega))) ?_
    refine zi_neB (tgt := 23) hx hb dX3_become_17 (by decide) (fun c_17 => ?_) (fun c_17 => ?_)
    · obtain ⟨x, rfl, hu_x, hv_x⟩ := zIn_ex c_5 (by omega)
      obtain ⟨k, rfl, hu_k, hv_k⟩ := zIn_ex c_17 (by omega)
      have hx0 : x < S.2.1 4 0 := by omega
      have hxk := (hB.kd hx0).2
      refine lv_aload_n hx hb dX3_become_23 rfl (lv_at hl 0 rfl) ?_
      refine va_get (D := g.1) (ci := 3) (v := .ref (ad 4)) (C := RX3) (T := TX3) (N := 30) hx hb hts in_X3 hown hK hP 0 rfl rfl 4 (by decide) (hts _ q1301) (fun _ h9 => h9) rfl dX3_become_24 ?_
      refine lv_iload_n hx hb dX3_become_27 rfl (lv_at hl 1 rfl) ?_
      have hQ_28 : va_P g.1 zCL [(ad 4, .inl (g.2 0, 44, .inl (cn 4)))] _ := hP.sub [4] rfl
      rw [show _ = _ from hc4] at hQ_28
      refine vp_callSi (W.runS (As := [.ref (ad 4), .int (nI x)]) (rest := []) ⟨hx, hb, hml, hown, hts⟩ (m_X3_kindOf l g (ad 4) (S.2.1 4) x (by omega)) (va_cwS 2 hts (lw_S q1510 q1511 q69 q1512) rfl rfl rfl hdS_X3_kindOf ⟨Nat.le_of_ble_eq_true rfl, Nat.le_of_ble_eq_true rfl⟩) (zpreS hK hN hQ_28) rfl rfl hl.1 rfl (lv_room (Nat.le_of_ble_eq_true rfl)) dX3_become_28 ⟨Nat.le_of_ble_eq_true rfl, Nat.le_of_ble_eq_true rfl⟩) (fun r_28 hr_28 => ?_)
      subst hr_28
      refine lv_istore_n (lv' := [(3, .int (nI (bkd (S.2.1 4) x))), (0, .ref (ad 0)), (1, .int (nI x)), (2, .int (nI k))]) hx hb dX3_become_31 rfl hl (by decide) rfl (fun ls hl => ?_)
      refine lv_iload_n hx hb dX3_become_32 rfl (lv_at hl 0 rfl) ?_
      refine lv_iload_n hx hb dX3_become_33 rfl (lv_at hl 3 rfl) ?_
      refine zc_ne (tgt := 40) hx hb (by omega) (by omega) dX3_become_34 (by decide) (fun c_34 => ?_) (fun c_34 => ?_)
      · refine lv_aload_n hx hb dX3_become_40 rfl (lv_at hl 1 rfl) ?_
        have hle_41 := hS.1
        refine va_callv (va_runV (As := []) (rest := []) ⟨hx, hb, hml, hown, hts⟩ (m_X3_keeps l g ad fi cn xl _ (S.2.1 4) (S.2.1 7) (S.1 8) hc4 hc7 hf8 (by omega)) (cwV 0 hts (lw_V q1493 q1495 qs42 q69 q1496) rfl rfl rfl hdV_X3_keeps ⟨Nat.le_of_ble_eq_true rfl, Nat.le_of_ble_eq_true rfl⟩) (zpreV hK hN (va_recv hK hP (ci := 3) (q0 := 0) rfl rfl) ⟨rfl, hP, hD.weaken (fun _ _ _ _ => trivial)⟩) rfl rfl hl.1 rfl (lv_room (Nat.le_of_ble_eq_true rfl)) dX3_become_41 ⟨Nat.le_of_ble_eq_true rfl, Nat.le_of_ble_eq_true rfl⟩) hS (fun q _ h => mA_le hS.1 q h) (mA_le hS.1) (fun u t H locs ht hvm hw_41 hB hzz hkk hS => ?_)
        obtain ⟨hP, hD⟩ := hB
        rw [ht] at hP
        have hD := hD.weaken (fun _ _ _ h => mA_le hle_41 _ h)
        obtain ⟨_, rfl⟩ := hw_41
        have hP : va_P g.1 zCL (mW g ad (va_up fi 8 (nI (S.1 8 + 1))) (va_up cn 7 (nF (va_cpy (S.2.1 4) (S.2.1 7) 0 (44 * (S.1 8)) 44))) xl) _ := hP
        have hD : va_D (mA ad s.heap.size) (mW g ad (va_up fi 8 (nI (S.1 8 + 1))) (va_up cn 7 (nF (va_cpy (S.2.1 4) (S.2.1 7) 0 (44 * (S.1 8)) 44))) xl) := hD
        refine lv_aload_n hx hb dX3_become_44 rfl (lv_at hl 1 rfl) ?_
        refine va_get (D := g.1) (ci := 3) (v := .ref (ad 4)) (C := RX3) (T := TX3) (N := 30) hx hb hts in_X3 hown hK hP 0 rfl rfl 4 (by decide) (hts _ q1301) (fun _ h9 => h9) rfl dX3_become_45 ?_
        refine lv_bipush (v := nI 12) hx hb dX3_become_48 (by decide) ?_
        refine lv_bipush (v := nI 8) hx hb dX3_become_50 (by decide) ?_
        refine lv_iload_n hx hb dX3_become_52 rfl (lv_at hl 2 rfl) ?_
        refine lv_imul hx hb dX3_become_53 ?_
        refine zti (pk_mul 8 x) ?_
        refine lv_iadd hx hb dX3_become_54 ?_
        refine zti (nI_add 12 (8 * x)) ?_
        refine lv_iload_n hx hb dX3_become_55 rfl (lv_at hl 3 rfl) ?_
        refine zast (f := cn 4) hx hb hK hP hD hS 4 0 rfl rfl (j := 12 + 8 * x) (by omega) (by decide) dX3_become_56 (fun H locs hP hD hS => ?_)
        rw [hc4] at hP hD
        rw [nF_up] at hP hD
        have hP : va_P g.1 zCL (mW g ad (va_up fi 8 (nI (S.1 8 + 1))) (va_up (va_up cn 4 (nF (va_up (S.2.1 4) (12 + 8 * x) k))) 7 (nF (va_cpy (S.2.1 4) (S.2.1 7) 0 (44 * (S.1 8)) 44))) xl) _ := hP
        have hD : va_D (mA ad s.heap.size) (mW g ad (va_up fi 8 (nI (S.1 8 + 1))) (va_up (va_up cn 4 (nF (va_up (S.2.1 4) (12 + 8 * x) k))) 7 (nF (va_cpy (S.2.1 4) (S.2.1 7) 0 (44 * (S.1 8)) 44))) xl) := hD
        refine lv_iload_n hx hb dX3_become_57 rfl (lv_at hl 0 rfl) ?_
        exact W.iret (v := nI (bkd (S.2.1 4) x)) hx hb hr (fun t ht hW => ⟨⟨nI (bkd (S.2.1 4) x), (va_up fi 8 (nI (S.1 8 + 1)), va_up (va_up cn 4 (nF (va_up (S.2.1 4) (12 + 8 * x) k))) 7 (nF (va_cpy (S.2.1 4) (S.2.1 7) 0 (44 * (S.1 8)) 44)), xl), rfl, (by unfold opBecome; (try rw [zn_nI (n := x) (by omega)]); (try rw [zn_nI (n := k) (by omega)]); rw [zif_t c_5, zif_t c_17, zif_f c_34]; exact ⟨rfl, ⟨hf0, rfl, hf12, hf19, hf29, hc1, hc2, hc3, rfl, rfl, hc11, hc26, hc27, hc28⟩, ⟨_, _, _, _, _, _, _, _, _, hc5, hc6, hc9, hc10, hc24, hc25, hc21, hc22, hf23⟩⟩), by rw [ht]; exact hP, hD⟩, hS.F ht⟩) hS.2.2 dX3_become_58
      · refine lv_ldc hx hb hown (hts _ q1475) dX3_become_37 ?_
        exact W.iret (v := -1000002) hx hb hr (fun t ht hW => ⟨⟨-1000002, (fi, cn, xl), rfl, (by unfold opBecome; (try rw [zn_nI (n := x) (by omega)]); (try rw [zn_nI (n := k) (by omega)]); rw [zif_t c_5, zif_t c_17, zif_t c_34]; exact ⟨rfl, ⟨hf0, hf8, hf12, hf19, hf29, hc1, hc2, hc3, hc4, hc7, hc11, hc26, hc27, hc28⟩, ⟨_, _, _, _, _, _, _, _, _, hc5, hc6, hc9, hc10, hc24, hc25, hc21, hc22, hf23⟩⟩), by rw [ht]; exact hP, hD⟩, hS.F ht⟩) hS.2.2 dX3_become_39
    · refine lv_ldc hx hb hown (hts _ q1401) dX3_become_20 ?_
      exact W.iret (v := -1000001) hx hb hr (fun t ht hW => ⟨⟨-1000001, (fi, cn, xl), rfl, (by unfold opBecome; rw [zif_t c_5, zif_f c_17]; exact ⟨rfl, ⟨hf0, hf8, hf12, hf19, hf29, hc1, hc2, hc3, hc4, hc7, hc11, hc26, hc27, hc28⟩, ⟨_, _, _, _, _, _, _, _, _, hc5, hc6, hc9, hc10, hc24, hc25, hc21, hc22, hf23⟩⟩), by rw [ht]; exact hP, hD⟩, hS.F ht⟩) hS.2.2 dX3_become_22

set_option maxHeartbeats 4000000 in
set_option maxRecDepth 100000 in
theorem m_X3_begin (l : Launch) (g : zG) (ad : Nat → Nat) (fi : Nat → Int32) (cn : Nat → Nat → Int32) (xl : Nat → Nat → Int64) (sz : Nat) (S : zS) (hM : MR S fi cn) (hX : MX fi cn xl) (hI : SI S) (hA24 : S.1 8 < 24) (r2 n2 : Int32) : Met l yX3_begin (ws_ yX3_begin cX3_begin 6 (some .int)) ({ frames := 3, cells := 0, slots := 0, locals := 71 }) (zPc g [.ref (ad 0), .int r2, .int n2] (mH g ad fi cn xl sz)) (va_Qi (fun (r9 : Int32) u => r9 = (opBegin S r2 n2 ).1 ∧ MR (opBegin S r2 n2 ).2 u.1 u.2.1 ∧ MX u.1 u.2.1 u.2.2) (mB g ad sz) (mA ad sz)) 0 0 (mA ad sz) := by
  refine Met.ofW (cc := cX3_begin) (maxL := 6) (ret := (some .int)) (by decide) rfl ?_
  intro p e s m args below meth c s₁ B0 hml hv
  obtain ⟨rfl, ⟨hK, hN⟩, hsz, hP, hD⟩ := hv
  have hx := B0.exec
  have hb := B0.bytes
  have hr := B0.returns
  have hts := atoms_spec (ws := ws_ yX3_begin cX3_begin 6 (some .int)) B0.pre
  have hts : ∀ w ∈ lw_all, w.before _ s = true := fun w h => hts w (List.mem_cons_of_mem _ h)
  have hown : s.vm.findClass RX3 = some m.cls := findClass_of_methodNamed B0.named
  have hlocks := B0.notSynchronized
  subst hsz
  have hD := mD_self s.heap.size hD
  have hS : va_S (mA ad s.heap.size) s.heap s.heap [] := va_S.rf
  have hl := lv_entry ([.ref (ad 0), .int r2, .int n2]) (n := 6) (Nat.le_of_ble_eq_true rfl)
  rw [lg_entry_eq]
  generalize (lg_sl ([.ref (ad 0), .int r2, .int n2]) ++ List.replicate (6 - (lg_sl ([.ref (ad 0), .int r2, .int n2])).length) Slot.unset).toArray = ls at hl ⊢
  have hl : lv_has ls 6 [(0, .ref (ad 0)), (1, .int r2), (2, .int n2)] := hl
  obtain ⟨hf0, hf8, hf12, hf19, hf29, hc1, hc2, hc3, hc4, hc7, hc11, hc26, hc27, hc28⟩ := hM
  obtain ⟨F5, F6, F9, F10, F24, E25, N21, N22, b23, hc5, hc6, hc9, hc10, hc24, hc25, hc21, hc22, hf23⟩ := hX
  have hB : bOK (S.2.1 4) := hI.1
  have h0 : S.2.1 4 0 ≤ 4 := hB.n4
  have h3 : S.2.1 4 3 ≤ 8 := hB.r8
  have hac := hI.2.2.1
  have hta := hI.2.2.2.1
  have hmn := hI.2.2.2.2.2.2.1
  have htn := hI.2.2.2.2.2.1
  refine lv_aload_n hx hb dX3_begin_0 rfl (lv_at hl 0 rfl) ?_
  have hQ_1 : va_P g.1 zCL [(ad 0, .inr (3, mO ad fi)), (ad 4, .inl (g.2 0, 44, .inl (cn 4)))] _ := hP.sub [0, 4] rfl
  rw [show _ = _ from hc4] at hQ_1
  refine vp_callSi (W.runV (As := []) (rest := []) ⟨hx, hb, hml, hown, hts⟩ (m_X3_isThere l g ad fi (S.2.1 4) hB  ) (cwV 0 hts (lw_V q1517 q1519 qs43 q69 q1520) rfl rfl rfl hdV_X3_isThere ⟨Nat.le_of_ble_eq_true rfl, Nat.le_of_ble_eq_true rfl⟩) (zpreV hK hN (va_recv hK hP (ci := 3) (q0 := 0) rfl rfl) hQ_1) rfl rfl hl.1 rfl (lv_room (Nat.le_of_ble_eq_true rfl)) dX3_begin_1 ⟨Nat.le_of_ble_eq_true rfl, Nat.le_of_ble_eq_true rfl⟩) (fun r_1 hr_1 => ?_)
  subst hr_1
  refine zi_neB (tgt := 10) hx hb dX3_begin_4 (by decide) (fun c_4 => ?_) (fun c_4 => ?_)
  · refine lv_iload_n hx hb dX3_begin_10 rfl (lv_at hl 1 rfl) ?_
    refine vp_callSi (W.runS (As := [.int r2]) (rest := []) ⟨hx, hb, hml, hown, hts⟩ (m_X3_isRow l g r2) (va_cwS 1 hts (lw_S q1393 q1394 q69 q1395) rfl rfl rfl hdS_X3_isRow ⟨Nat.le_of_ble_eq_true rfl, Nat.le_of_ble_eq_true rfl⟩) (zpreS hK hN trivial) rfl rfl hl.1 rfl (lv_room (Nat.le_of_ble_eq_true rfl)) dX3_begin_11 ⟨Nat.le_of_ble_eq_true rfl, Nat.le_of_ble_eq_true rfl⟩) (fun r_11 hr_11 => ?_)
    subst hr_11
    refine zi_eqB (tgt := 29) hx hb dX3_begin_14 (by decide) (fun c_14 => ?_) (fun c_14 => ?_)
    · refine lv_ldc hx hb hown (hts _ q1401) dX3_begin_29 ?_
      exact W.iret (v := -1000001) hx hb hr (fun t ht hW => ⟨⟨-1000001, (fi, cn, xl), rfl, (by unfold opBegin; rw [zif_t c_4, zif_f c_14]; exact ⟨rfl, ⟨hf0, hf8, hf12, hf19, hf29, hc1, hc2, hc3, hc4, hc7, hc11, hc26, hc27, hc28⟩, ⟨_, _, _, _, _, _, _, _, _, hc5, hc6, hc9, hc10, hc24, hc25, hc21, hc22, hf23⟩⟩), by rw [ht]; exact hP, hD⟩, hS.F ht⟩) hS.2.2 dX3_begin_31
    · refine lv_iload_n hx hb dX3_begin_17 rfl (lv_at hl 2 rfl) ?_
      refine lv_i2l hx hb dX3_begin_18 rfl ?_
      refine lv_lconst (v := lN 1) hx hb dX3_begin_19 (by decide) ?_
      refine lv_ldc2 hx hb hown (hts _ q1526) dX3_begin_20 ?_
      refine ztl (show (8 : Int64) = lN 8 from rfl) ?_
      refine vp_callSi (W.runS (As := [.long n2.toInt64, .long (lN 1), .long (lN 8)]) (rest := []) ⟨hx, hb, hml, hown, hts⟩ (m_X3_in l g n2.toInt64 (lN 1) (lN 8)) (va_cwS 3 hts (lw_S q1397 q1398 q69 q1399) rfl rfl rfl hdS_X3_in ⟨Nat.le_of_ble_eq_true rfl, Nat.le_of_ble_eq_true rfl⟩) (zpreS hK hN trivial) rfl rfl hl.1 rfl (lv_room (Nat.le_of_ble_eq_true rfl)) dX3_begin_23 ⟨Nat.le_of_ble_eq_true rfl, Nat.le_of_ble_eq_true rfl⟩) (fun r_23 hr_23 => ?_)
      subst hr_23
      refine zti (show _ = zB (zIn n2 1 8) from zB_c (zIn_l n2 (by omega) (by omega))) ?_
      refine zi_neB (tgt := 32) hx hb dX3_begin_26 (by decide) (fun c_26 => ?_) (fun c_26 => ?_)
      · obtain ⟨r, rfl, hu_r, hv_r⟩ := zIn_ex c_14 (by omega)
        obtain ⟨n, rfl, hu_n, hv_n⟩ := zIn_ex c_26 (by omega)
        have hmr := hmn r (by omega)
        refine lv_aload_n hx hb dX3_begin_32 rfl (lv_at hl 0 rfl) ?_
        refine lv_iload_n hx hb dX3_begin_33 rfl (lv_at hl 1 rfl) ?_
        refine lv_iload_n hx hb dX3_begin_34 rfl (lv_at hl 2 rfl) ?_
        have hle_35 := hS.1
        refine va_calli (va_runV (As := [.int (nI r), .int (nI n)]) (rest := []) ⟨hx, hb, hml, hown, hts⟩ (m_X3_lacksLetters l g ad fi cn xl _ (S.2.2.1 1) (S.2.1 2) hc1 hc2 r n (by omega) (by omega) (by omega) (S.2.2.1 3) (S.2.1 4) hc3 hc4 hB) (cwV 2 hts (lw_V q1485 q1487 qs40 q69 q1488) rfl rfl rfl hdV_X3_lacksLetters ⟨Nat.le_of_ble_eq_true rfl, Nat.le_of_ble_eq_true rfl⟩) (zpreV hK hN (va_recv hK hP (ci := 3) (q0 := 0) rfl rfl) ⟨rfl, hP, hD.weaken (fun _ _ _ _ => trivial)⟩) rfl rfl hl.1 rfl (lv_room (Nat.le_of_ble_eq_true rfl)) dX3_begin_35 ⟨Nat.le_of_ble_eq_true rfl, Nat.le_of_ble_eq_true rfl⟩) hS (fun q _ h => mA_le hS.1 q h) (mA_le hS.1) (fun r_35 u t H locs ht hvm hw_35 hB hzz hkk hS => ?_)
        obtain ⟨hP, hD⟩ := hB
        rw [ht] at hP
        have hD := hD.weaken (fun _ _ _ h => mA_le hle_35 _ h)
        obtain ⟨rfl, rfl⟩ := hw_35
        have hP : va_P g.1 zCL (mW g ad (va_up fi 0 (nI (zll (S.2.2.1 1) (S.2.1 2) (S.2.2.1 3) ((S.2.1 4) 0) r n))) cn xl) _ := hP
        have hD : va_D (mA ad s.heap.size) (mW g ad (va_up fi 0 (nI (zll (S.2.2.1 1) (S.2.1 2) (S.2.2.1 3) ((S.2.1 4) 0) r n))) cn xl) := hD
        by_cases hll : zll (S.2.2.1 1) (S.2.1 2) (S.2.2.1 3) (S.2.1 4 0) r n = 0
        · refine zti (show _ = nI 0 from by rw [hll, zres_0]) ?_
          have hlts := (zll_0 hll).2
          refine lv_istore_n (lv' := [(3, .int (nI 0)), (0, .ref (ad 0)), (1, .int (nI r)), (2, .int (nI n))]) hx hb dX3_begin_38 rfl hl (by decide) rfl (fun ls hl => ?_)
          refine lv_iload_n hx hb dX3_begin_39 rfl (lv_at hl 0 rfl) ?_
          refine zi_eq (tgt := 45) hx hb (by omega) dX3_begin_40 (by decide) (fun c_40 => ?_) (fun c_40 => ?_)
          · refine lv_aload_n hx hb dX3_begin_45 rfl (lv_at hl 1 rfl) ?_
            have hle_46 := hS.1
            refine va_callv (va_runV (As := []) (rest := []) ⟨hx, hb, hml, hown, hts⟩ (m_X3_keeps l g ad (va_up fi 0 (nI (zll (S.2.2.1 1) (S.2.1 2) (S.2.2.1 3) ((S.2.1 4) 0) r n))) cn xl _ (S.2.1 4) (S.2.1 7) (S.1 8) hc4 hc7 hf8 (by omega)) (cwV 0 hts (lw_V q1493 q1495 qs42 q69 q1496) rfl rfl rfl hdV_X3_keeps ⟨Nat.le_of_ble_eq_true rfl, Nat.le_of_ble_eq_true rfl⟩) (zpreV hK hN (va_recv hK hP (ci := 3) (q0 := 0) rfl rfl) ⟨rfl, hP, hD.weaken (fun _ _ _ _ => trivial)⟩) rfl rfl hl.1 rfl (lv_room (Nat.le_of_ble_eq_true rfl)) dX3_begin_46 ⟨Nat.le_of_ble_eq_true rfl, Nat.le_of_ble_eq_true rfl⟩) hS (fun q _ h => mA_le hS.1 q h) (mA_le hS.1) (fun u t H locs ht hvm hw_46 hB hzz hkk hS => ?_)
            obtain ⟨hP, hD⟩ := hB
            rw [ht] at hP
            have hD := hD.weaken (fun _ _ _ h => mA_le hle_46 _ h)
            obtain ⟨_, rfl⟩ := hw_46
            have hP : va_P g.1 zCL (mW g ad (va_up (va_up fi 0 (nI (zll (S.2.2.1 1) (S.2.1 2) (S.2.2.1 3) ((S.2.1 4) 0) r n))) 8 (nI (S.1 8 + 1))) (va_up cn 7 (nF (va_cpy (S.2.1 4) (S.2.1 7) 0 (44 * (S.1 8)) 44))) xl) _ := hP
            have hD : va_D (mA ad s.heap.size) (mW g ad (va_up (va_up fi 0 (nI (zll (S.2.2.1 1) (S.2.1 2) (S.2.2.1 3) ((S.2.1 4) 0) r n))) 8 (nI (S.1 8 + 1))) (va_up cn 7 (nF (va_cpy (S.2.1 4) (S.2.1 7) 0 (44 * (S.1 8)) 44))) xl) := hD
            refine lv_aload_n hx hb dX3_begin_49 rfl (lv_at hl 1 rfl) ?_
            refine va_get (D := g.1) (ci := 3) (v := .ref (ad 4)) (C := RX3) (T := TX3) (N := 30) hx hb hts in_X3 hown hK hP 0 rfl rfl 4 (by decide) (hts _ q1301) (fun _ h9 => h9) rfl dX3_begin_50 ?_
            refine lv_iconst (v := nI 3) hx hb dX3_begin_53 (by decide) ?_
            refine zald hx hb hK hP 4 0 rfl rfl (j := 3) (by omega) (by decide) dX3_begin_54 ?_
            refine zti (congrFun hc4 _) ?_
            refine zti (show (nF (S.2.1 4)) 3 = nI ((S.2.1 4) 3) from rfl) ?_
            refine lv_istore (lv' := [(4, .int (nI ((S.2.1 4) 3))), (3, .int (nI 0)), (0, .ref (ad 0)), (1, .int (nI r)), (2, .int (nI n))]) hx hb dX3_begin_55 hl (by decide) rfl (fun ls hl => ?_)
            refine lv_iconst (v := nI 0) hx hb dX3_begin_57 (by decide) ?_
            refine lv_istore (lv' := [(5, .int (nI 0)), (4, .int (nI ((S.2.1 4) 3))), (3, .int (nI 0)), (0, .ref (ad 0)), (1, .int (nI r)), (2, .int (nI n))]) hx hb dX3_begin_58 hl (by decide) rfl (fun ls hl => ?_)
            refine zloopW (head := 60) (n) (fun k H locs cells slots ls => cells = 0 ∧ slots = 0 ∧ va_P g.1 zCL (mW g ad (va_up (va_up fi 0 (nI (zll (S.2.2.1 1) (S.2.1 2) (S.2.2.1 3) ((S.2.1 4) 0) r n))) 8 (nI (S.1 8 + 1))) (va_up (va_up cn 4 (nF (va_cpy (zits S r) (S.2.1 4) 0 4 k))) 7 (nF (va_cpy (S.2.1 4) (S.2.1 7) 0 (44 * (S.1 8)) 44))) xl) H ∧ va_D (mA ad s.heap.size) (mW g ad (va_up (va_up fi 0 (nI (zll (S.2.2.1 1) (S.2.1 2) (S.2.2.1 3) ((S.2.1 4) 0) r n))) 8 (nI (S.1 8 + 1))) (va_up (va_up cn 4 (nF (va_cpy (zits S r) (S.2.1 4) 0 4 k))) 7 (nF (va_cpy (S.2.1 4) (S.2.1 7) 0 (44 * (S.1 8)) 44))) xl) ∧ va_S (mA ad s.heap.size) s.heap H locs ∧ lv_has ls 6 [(0, .ref (ad 0)), (1, .int (nI r)), (2, .int (nI n)), (4, .int (nI (S.2.1 4 3))), (5, .int (nI k))]) (fun k hv_k ih_60 H locs cells slots ls hI => ?_) 0 (Nat.zero_le _) ?_
            · obtain ⟨rfl, rfl, hP, hD, hS, hl⟩ := hI
              refine lv_iload hx hb dX3_begin_60 (lv_at hl 4 rfl) ?_
              refine lv_iload_n hx hb dX3_begin_62 rfl (lv_at hl 2 rfl) ?_
              refine zc_ge (tgt := 93) hx hb (by omega) (by omega) dX3_begin_63 (by decide) (fun c_63 => ?_) (fun c_63 => ?_)
              · obtain rfl : n = k := by omega
                refine lv_aload_n hx hb dX3_begin_93 rfl (lv_at hl 0 rfl) ?_
                refine va_get (D := g.1) (ci := 3) (v := .ref (ad 4)) (C := RX3) (T := TX3) (N := 30) hx hb hts in_X3 hown hK hP 0 rfl rfl 4 (by decide) (hts _ q1301) (fun _ h9 => h9) rfl dX3_begin_94 ?_
                refine lv_iconst (v := nI 3) hx hb dX3_begin_97 (by decide) ?_
                refine lv_iload_n hx hb dX3_begin_98 rfl (lv_at hl 2 rfl) ?_
                refine zast (f := nF (va_cpy (zits S r) (S.2.1 4) 0 4 n)) hx hb hK hP hD hS 4 0 rfl rfl (j := 3) (by omega) (by decide) dX3_begin_99 (fun H locs hP hD hS => ?_)
                rw [nF_up] at hP hD
                have hP : va_P g.1 zCL (mW g ad (va_up (va_up fi 0 (nI (zll (S.2.2.1 1) (S.2.1 2) (S.2.2.1 3) ((S.2.1 4) 0) r n))) 8 (nI (S.1 8 + 1))) (va_up (va_up cn 4 (nF (va_up (va_cpy (zits S r) (S.2.1 4) 0 4 n) 3 n))) 7 (nF (va_cpy (S.2.1 4) (S.2.1 7) 0 (44 * (S.1 8)) 44))) xl) _ := hP
                have hD : va_D (mA ad s.heap.size) (mW g ad (va_up (va_up fi 0 (nI (zll (S.2.2.1 1) (S.2.1 2) (S.2.2.1 3) ((S.2.1 4) 0) r n))) 8 (nI (S.1 8 + 1))) (va_up (va_up cn 4 (nF (va_up (va_cpy (zits S r) (S.2.1 4) 0 4 n) 3 n))) 7 (nF (va_cpy (S.2.1 4) (S.2.1 7) 0 (44 * (S.1 8)) 44))) xl) := hD
                refine lv_iload hx hb dX3_begin_100 (lv_at hl 3 rfl) ?_
                exact W.iret (v := nI (S.2.1 4 3)) hx hb hr (fun t ht hW => ⟨⟨nI (S.2.1 4 3), (va_up (va_up fi 0 (nI (zll (S.2.2.1 1) (S.2.1 2) (S.2.2.1 3) ((S.2.1 4) 0) r n))) 8 (nI (S.1 8 + 1)), va_up (va_up cn 4 (nF (va_up (va_cpy (zits S r) (S.2.1 4) 0 4 n) 3 n))) 7 (nF (va_cpy (S.2.1 4) (S.2.1 7) 0 (44 * (S.1 8)) 44)), xl), rfl, (by unfold opBegin; (try rw [zn_nI (n := r) (by omega)]); (try rw [zn_nI (n := n) (by omega)]); rw [zif_t c_4, zif_t c_14, zif_t c_26, zif_t hll]; exact ⟨rfl, ⟨(congrArg nI hll), rfl, hf12, hf19, hf29, hc1, hc2, hc3, rfl, rfl, hc11, hc26, hc27, hc28⟩, ⟨_, _, _, _, _, _, _, _, _, hc5, hc6, hc9, hc10, hc24, hc25, hc21, hc22, hf23⟩⟩), by rw [ht]; exact hP, hD⟩, hS.F ht⟩) hS.2.2 dX3_begin_102
              · refine lv_aload_n hx hb dX3_begin_66 rfl (lv_at hl 0 rfl) ?_
                refine va_get (D := g.1) (ci := 3) (v := .ref (ad 4)) (C := RX3) (T := TX3) (N := 30) hx hb hts in_X3 hown hK hP 0 rfl rfl 4 (by decide) (hts _ q1301) (fun _ h9 => h9) rfl dX3_begin_67 ?_
                refine lv_iconst (v := nI 4) hx hb dX3_begin_70 (by decide) ?_
                refine lv_iload hx hb dX3_begin_71 (lv_at hl 4 rfl) ?_
                refine lv_iadd hx hb dX3_begin_73 ?_
                refine zti (nI_add 4 k) ?_
                refine lv_aload_n hx hb dX3_begin_74 rfl (lv_at hl 0 rfl) ?_
                refine va_get (D := g.1) (ci := 3) (v := .ref (ad 3)) (C := RX3) (T := TX3) (N := 30) hx hb hts in_X3 hown hK hP 0 rfl rfl 3 (by decide) (hts _ q1300) (fun _ h9 => h9) rfl dX3_begin_75 ?_
                refine lv_bipush (v := nI 40) hx hb dX3_begin_78 (by decide) ?_
                refine lv_iload_n hx hb dX3_begin_80 rfl (lv_at hl 1 rfl) ?_
                refine lv_imul hx hb dX3_begin_81 ?_
                refine zti (pk_mul 40 r) ?_
                refine lv_iload hx hb dX3_begin_82 (lv_at hl 4 rfl) ?_
                refine lv_iadd hx hb dX3_begin_84 ?_
                refine zti (nI_add (40 * r) k) ?_
                refine zald hx hb hK hP 3 0 rfl rfl (j := 40 * r + k) (by omega) (by decide) dX3_begin_85 ?_
                refine zti (congrFun hc3 _) ?_
                refine zti (show _ = nI (zits S r k) from zn_eq (hlts k (by omega)).1) ?_
                refine zast (f := nF (va_cpy (zits S r) (S.2.1 4) 0 4 k)) hx hb hK hP hD hS 4 0 rfl rfl (j := 4 + k) (by omega) (by decide) dX3_begin_86 (fun H locs hP hD hS => ?_)
                rw [nF_up] at hP hD
                have hP : va_P g.1 zCL (mW g ad (va_up (va_up fi 0 (nI (zll (S.2.2.1 1) (S.2.1 2) (S.2.2.1 3) ((S.2.1 4) 0) r n))) 8 (nI (S.1 8 + 1))) (va_up (va_up cn 4 (nF (va_up (va_cpy (zits S r) (S.2.1 4) 0 4 k) (4 + k) (zits S r k)))) 7 (nF (va_cpy (S.2.1 4) (S.2.1 7) 0 (44 * (S.1 8)) 44))) xl) _ := hP
                have hD : va_D (mA ad s.heap.size) (mW g ad (va_up (va_up fi 0 (nI (zll (S.2.2.1 1) (S.2.1 2) (S.2.2.1 3) ((S.2.1 4) 0) r n))) 8 (nI (S.1 8 + 1))) (va_up (va_up cn 4 (nF (va_up (va_cpy (zits S r) (S.2.1 4) 0 4 k) (4 + k) (zits S r k)))) 7 (nF (va_cpy (S.2.1 4) (S.2.1 7) 0 (44 * (S.1 8)) 44))) xl) := hD
                refine lv_iinc (v := nI (k + 1)) (lv' := [(5, .int (nI (k + 1))), (0, .ref (ad 0)), (1, .int (nI r)), (2, .int (nI n)), (4, .int (nI (S.2.1 4 3)))]) hx hb dX3_begin_87 hl (k := 4) rfl (nI_add k 1) (by decide) rfl (fun ls hl => ?_)
                refine lv_goto (tgt := 60) hx hb dX3_begin_90 (by decide) ?_
                rw [show va_up (va_cpy (zits S r) (S.2.1 4) 0 4 k) (4 + k) (zits S r k) = va_cpy (zits S r) (S.2.1 4) 0 4 (k + 1) by have := zcpy_s (zits S r) (S.2.1 4) 0 4 k; rw [Nat.zero_add] at this; exact this] at hP hD
                exact ih_60 (by omega) _ _ _ _ _ ⟨rfl, rfl, hP, hD, hS, lv_sub hl [1, 2, 3, 4, 0] rfl⟩
            · rw [mW_up (cn := va_up cn 7 (nF (va_cpy (S.2.1 4) (S.2.1 7) 0 (44 * (S.1 8)) 44))) (k := 4) (f := nF (va_cpy (zits S r) (S.2.1 4) 0 4 0)) (by rw [zcpy_0]; exact hc4)] at hP
              rw [mW_up (cn := va_up cn 7 (nF (va_cpy (S.2.1 4) (S.2.1 7) 0 (44 * (S.1 8)) 44))) (k := 4) (f := nF (va_cpy (zits S r) (S.2.1 4) 0 4 0)) (by rw [zcpy_0]; exact hc4)] at hD
              have hP : va_P g.1 zCL (mW g ad (va_up (va_up fi 0 (nI (zll (S.2.2.1 1) (S.2.1 2) (S.2.2.1 3) ((S.2.1 4) 0) r n))) 8 (nI (S.1 8 + 1))) (va_up (va_up cn 4 (nF (va_cpy (zits S r) (S.2.1 4) 0 4 0))) 7 (nF (va_cpy (S.2.1 4) (S.2.1 7) 0 (44 * (S.1 8)) 44))) xl) _ := hP
              have hD : va_D (mA ad s.heap.size) (mW g ad (va_up (va_up fi 0 (nI (zll (S.2.2.1 1) (S.2.1 2) (S.2.2.1 3) ((S.2.1 4) 0) r n))) 8 (nI (S.1 8 + 1))) (va_up (va_up cn 4 (nF (va_cpy (zits S r) (S.2.1 4) 0 4 0))) 7 (nF (va_cpy (S.2.1 4) (S.2.1 7) 0 (44 * (S.1 8)) 44))) xl) := hD
              exact ⟨rfl, rfl, hP, hD, hS, lv_sub hl [3, 4, 5, 1, 0] rfl⟩
          · exact absurd rfl c_40
        · have hne := zres_ne hll (zll_le (S.2.2.1 1) (S.2.1 2) (S.2.2.1 3) (S.2.1 4 0) r n)
          refine lv_istore_n (lv' := [(3, .int (zres (zll (S.2.2.1 1) (S.2.1 2) (S.2.2.1 3) ((S.2.1 4) 0) r n))), (0, .ref (ad 0)), (1, .int (nI r)), (2, .int (nI n))]) hx hb dX3_begin_38 rfl hl (by decide) rfl (fun ls hl => ?_)
          refine lv_iload_n hx hb dX3_begin_39 rfl (lv_at hl 0 rfl) ?_
          refine lv_if_eq (tgt := 45) hx hb dX3_begin_40 (by decide) (fun c_40 => ?_) (fun c_40 => ?_)
          · exact absurd c_40 hne
          · refine lv_iload_n hx hb dX3_begin_43 rfl (lv_at hl 0 rfl) ?_
            exact W.iret (v := zres (zll (S.2.2.1 1) (S.2.1 2) (S.2.2.1 3) ((S.2.1 4) 0) r n)) hx hb hr (fun t ht hW => ⟨⟨zres (zll (S.2.2.1 1) (S.2.1 2) (S.2.2.1 3) ((S.2.1 4) 0) r n), (va_up fi 0 (nI (zll (S.2.2.1 1) (S.2.1 2) (S.2.2.1 3) ((S.2.1 4) 0) r n)), cn, xl), rfl, (by unfold opBegin; (try rw [zn_nI (n := r) (by omega)]); (try rw [zn_nI (n := n) (by omega)]); rw [zif_t c_4, zif_t c_14, zif_t c_26, zif_f hll]; exact ⟨rfl, ⟨rfl, hf8, hf12, hf19, hf29, hc1, hc2, hc3, hc4, hc7, hc11, hc26, hc27, hc28⟩, ⟨_, _, _, _, _, _, _, _, _, hc5, hc6, hc9, hc10, hc24, hc25, hc21, hc22, hf23⟩⟩), by rw [ht]; exact hP, hD⟩, hS.F ht⟩) hS.2.2 dX3_begin_44
      · refine lv_ldc hx hb hown (hts _ q1401) dX3_begin_29 ?_
        exact W.iret (v := -1000001) hx hb hr (fun t ht hW => ⟨⟨-1000001, (fi, cn, xl), rfl, (by unfold opBegin; rw [zif_t c_4, zif_t c_14, zif_f c_26]; exact ⟨rfl, ⟨hf0, hf8, hf12, hf19, hf29, hc1, hc2, hc3, hc4, hc7, hc11, hc26, hc27, hc28⟩, ⟨_, _, _, _, _, _, _, _, _, hc5, hc6, hc9, hc10, hc24, hc25, hc21, hc22, hf23⟩⟩), by rw [ht]; exact hP, hD⟩, hS.F ht⟩) hS.2.2 dX3_begin_31
  · refine lv_ldc hx hb hown (hts _ q1475) dX3_begin_7 ?_
    exact W.iret (v := -1000002) hx hb hr (fun t ht hW => ⟨⟨-1000002, (fi, cn, xl), rfl, (by unfold opBegin; rw [zif_f c_4]; exact ⟨rfl, ⟨hf0, hf8, hf12, hf19, hf29, hc1, hc2, hc3, hc4, hc7, hc11, hc26, hc27, hc28⟩, ⟨_, _, _, _, _, _, _, _, _, hc5, hc6, hc9, hc10, hc24, hc25, hc21, hc22, hf23⟩⟩), by rw [ht]; exact hP, hD⟩, hS.F ht⟩) hS.2.2 dX3_begin_9

set_option maxHeartbeats 4000000 in
set_option maxRecDepth 100000 in
theorem m_X3_as (l : Launch) (g : zG) (ad : Nat → Nat) (fi : Nat → Int32) (cn : Nat → Nat → Int32) (xl : Nat → Nat → Int64) (sz : Nat) (S : zS) (hM : MR S fi cn) (hX : MX fi cn xl) (hI : SI S) (s2 k2 : Int32) : Met l yX3_as (ws_ yX3_as cX3_as 3 (some .int)) ({ frames := 2, cells := 0, slots := 0, locals := 46 }) (zPc g [.ref (ad 0), .int s2, .int k2] (mH g ad fi cn xl sz)) (va_Qi (fun (r9 : Int32) u => r9 = (opAs S s2 k2 ).1 ∧ MR (opAs S s2 k2 ).2 u.1 u.2.1 ∧ MX u.1 u.2.1 u.2.2) (mB g ad sz) (mA ad sz)) 0 0 (mA ad sz) := by
  refine Met.ofW (cc := cX3_as) (maxL := 3) (ret := (some .int)) (by decide) rfl ?_
  intro p e s m args below meth c s₁ B0 hml hv
  obtain ⟨rfl, ⟨hK, hN⟩, hsz, hP, hD⟩ := hv
  have hx := B0.exec
  have hb := B0.bytes
  have hr := B0.returns
  have hts := atoms_spec (ws := ws_ yX3_as cX3_as 3 (some .int)) B0.pre
  have hts : ∀ w ∈ lw_all, w.before _ s = true := fun w h => hts w (List.mem_cons_of_mem _ h)
  have hown : s.vm.findClass RX3 = some m.cls := findClass_of_methodNamed B0.named
  have hlocks := B0.notSynchronized
  subst hsz
  have hD := mD_self s.heap.size hD
  have hS : va_S (mA ad s.heap.size) s.heap s.heap [] := va_S.rf
  have hl := lv_entry ([.ref (ad 0), .int s2, .int k2]) (n := 3) (Nat.le_of_ble_eq_true rfl)
  rw [lg_entry_eq]
  generalize (lg_sl ([.ref (ad 0), .int s2, .int k2]) ++ List.replicate (3 - (lg_sl ([.ref (ad 0), .int s2, .int k2])).length) Slot.unset).toArray = ls at hl ⊢
  have hl : lv_has ls 3 [(0, .ref (ad 0)), (1, .int s2), (2, .int k2)] := hl
  obtain ⟨hf0, hf8, hf12, hf19, hf29, hc1, hc2, hc3, hc4, hc7, hc11, hc26, hc27, hc28⟩ := hM
  obtain ⟨F5, F6, F9, F10, F24, E25, N21, N22, b23, hc5, hc6, hc9, hc10, hc24, hc25, hc21, hc22, hf23⟩ := hX
  have hB : bOK (S.2.1 4) := hI.1
  have h0 : S.2.1 4 0 ≤ 4 := hB.n4
  have h3 : S.2.1 4 3 ≤ 8 := hB.r8
  have hac := hI.2.2.1
  have hta := hI.2.2.2.1
  have hmn := hI.2.2.2.2.2.2.1
  have htn := hI.2.2.2.2.2.1
  refine lv_aload_n hx hb dX3_as_0 rfl (lv_at hl 0 rfl) ?_
  refine lv_iload_n hx hb dX3_as_1 rfl (lv_at hl 1 rfl) ?_
  have hQ_2 : va_P g.1 zCL [(ad 0, .inr (3, mO ad fi)), (ad 4, .inl (g.2 0, 44, .inl (cn 4)))] _ := hP.sub [0, 4] rfl
  rw [show _ = _ from hc4] at hQ_2
  refine vp_callSi (W.runV (As := [.int s2]) (rest := []) ⟨hx, hb, hml, hown, hts⟩ (m_X3_isSort l g ad fi (S.2.1 4) hB s2) (cwV 1 hts (lw_V q1480 q1482 qs39 q69 q1483) rfl rfl rfl hdV_X3_isSort ⟨Nat.le_of_ble_eq_true rfl, Nat.le_of_ble_eq_true rfl⟩) (zpreV hK hN (va_recv hK hP (ci := 3) (q0 := 0) rfl rfl) hQ_2) rfl rfl hl.1 rfl (lv_room (Nat.le_of_ble_eq_true rfl)) dX3_as_2 ⟨Nat.le_of_ble_eq_true rfl, Nat.le_of_ble_eq_true rfl⟩) (fun r_2 hr_2 => ?_)
  subst hr_2
  refine zi_eqB (tgt := 20) hx hb dX3_as_5 (by decide) (fun c_5 => ?_) (fun c_5 => ?_)
  · refine lv_ldc hx hb hown (hts _ q1401) dX3_as_20 ?_
    exact W.iret (v := -1000001) hx hb hr (fun t ht hW => ⟨⟨-1000001, (fi, cn, xl), rfl, (by unfold opAs; rw [zif_f c_5]; exact ⟨rfl, ⟨hf0, hf8, hf12, hf19, hf29, hc1, hc2, hc3, hc4, hc7, hc11, hc26, hc27, hc28⟩, ⟨_, _, _, _, _, _, _, _, _, hc5, hc6, hc9, hc10, hc24, hc25, hc21, hc22, hf23⟩⟩), by rw [ht]; exact hP, hD⟩, hS.F ht⟩) hS.2.2 dX3_as_22
  · refine lv_iload_n hx hb dX3_as_8 rfl (lv_at hl 2 rfl) ?_
    refine lv_i2l hx hb dX3_as_9 rfl ?_
    refine lv_lconst (v := lN 0) hx hb dX3_as_10 (by decide) ?_
    refine lv_ldc2 hx hb hown (hts _ q1509) dX3_as_11 ?_
    refine ztl (show (5 : Int64) = lN 5 from rfl) ?_
    refine vp_callSi (W.runS (As := [.long k2.toInt64, .long (lN 0), .long (lN 5)]) (rest := []) ⟨hx, hb, hml, hown, hts⟩ (m_X3_in l g k2.toInt64 (lN 0) (lN 5)) (va_cwS 3 hts (lw_S q1397 q1398 q69 q1399) rfl rfl rfl hdS_X3_in ⟨Nat.le_of_ble_eq_true rfl, Nat.le_of_ble_eq_true rfl⟩) (zpreS hK hN trivial) rfl rfl hl.1 rfl (lv_room (Nat.le_of_ble_eq_true rfl)) dX3_as_14 ⟨Nat.le_of_ble_eq_true rfl, Nat.le_of_ble_eq_true rfl⟩) (fun r_14 hr_14 => ?_)
    subst hr_14
    refine zti (show _ = zB (zIn k2 0 5) from zB_c (zIn_l k2 (by omega) (by omega))) ?_
    refine zi_neB (tgt := 23) hx hb dX3_as_17 (by decide) (fun c_17 => ?_) (fun c_17 => ?_)
    · obtain ⟨x, rfl, hu_x, hv_x⟩ := zIn_ex c_5 (by omega)
      obtain ⟨k, rfl, hu_k, hv_k⟩ := zIn_ex c_17 (by omega)
      have hx0 : x < S.2.1 4 0 := by omega
      have hxk := (hB.kd hx0).2
      refine lv_aload_n hx hb dX3_as_23 rfl (lv_at hl 0 rfl) ?_
      refine lv_iconst (v := nI 0) hx hb dX3_as_24 (by decide) ?_
      refine va_put (D := g.1) (ci := 3) (v := .int (nI 0)) (ty := .int) (C := RX3) (T := TX3) (N := 30) hx hb hts in_X3 tyX3 tyX3_ok nmX3 hown hK hP hD hS 0 rfl rfl 0 (by decide) (hts _ q1297) (fun _ h9 => h9) rfl (by decide +kernel) rfl rfl (Nat.le_of_ble_eq_true rfl) dX3_as_25 (fun H locs hP hD hS => ?_)
      have hP : va_P g.1 zCL (mW g ad (va_up fi 0 (nI 0)) cn xl) _ := hP
      have hD : va_D (mA ad s.heap.size) (mW g ad (va_up fi 0 (nI 0)) cn xl) := hD
      refine lv_aload_n hx hb dX3_as_28 rfl (lv_at hl 0 rfl) ?_
      refine va_get (D := g.1) (ci := 3) (v := .ref (ad 4)) (C := RX3) (T := TX3) (N := 30) hx hb hts in_X3 hown hK hP 0 rfl rfl 4 (by decide) (hts _ q1301) (fun _ h9 => h9) rfl dX3_as_29 ?_
      refine lv_iload_n hx hb dX3_as_32 rfl (lv_at hl 1 rfl) ?_
      have hQ_33 : va_P g.1 zCL [(ad 4, .inl (g.2 0, 44, .inl (cn 4)))] _ := hP.sub [4] rfl
      rw [show _ = _ from hc4] at hQ_33
      refine vp_callSi (W.runS (As := [.ref (ad 4), .int (nI x)]) (rest := []) ⟨hx, hb, hml, hown, hts⟩ (m_X3_kindOf l g (ad 4) (S.2.1 4) x (by omega)) (va_cwS 2 hts (lw_S q1510 q1511 q69 q1512) rfl rfl rfl hdS_X3_kindOf ⟨Nat.le_of_ble_eq_true rfl, Nat.le_of_ble_eq_true rfl⟩) (zpreS hK hN hQ_33) rfl rfl hl.1 rfl (lv_room (Nat.le_of_ble_eq_true rfl)) dX3_as_33 ⟨Nat.le_of_ble_eq_true rfl, Nat.le_of_ble_eq_true rfl⟩) (fun r_33 hr_33 => ?_)
      subst hr_33
      refine lv_iload_n hx hb dX3_as_36 rfl (lv_at hl 2 rfl) ?_
      refine vp_callSi (W.runS (As := [.int (nI (bkd (S.2.1 4) x)), .int (nI k)]) (rest := []) ⟨hx, hb, hml, hown, hts⟩ (m_X3_isOf l g (bkd (S.2.1 4) x) k (by omega) (by omega)) (va_cwS 2 hts (lw_S q1696 q1697 q69 q1698) rfl rfl rfl hdS_X3_isOf ⟨Nat.le_of_ble_eq_true rfl, Nat.le_of_ble_eq_true rfl⟩) (zpreS hK hN trivial) rfl rfl hl.1 rfl (lv_room (Nat.le_of_ble_eq_true rfl)) dX3_as_37 ⟨Nat.le_of_ble_eq_true rfl, Nat.le_of_ble_eq_true rfl⟩) (fun r_37 hr_37 => ?_)
      subst hr_37
      refine zi_eqB (tgt := 47) hx hb dX3_as_40 (by decide) (fun c_40 => ?_) (fun c_40 => ?_)
      · refine lv_aload_n hx hb dX3_as_47 rfl (lv_at hl 0 rfl) ?_
        refine lv_iconst (v := nI 3) hx hb dX3_as_48 (by decide) ?_
        have hle_49 := hS.1
        refine va_calli (va_runV (As := [.int (nI 3)]) (rest := []) ⟨hx, hb, hml, hown, hts⟩ (m_X3_finding l g ad (va_up fi 0 (nI 0)) cn xl _ 3) (cwV 1 hts (lw_V q1402 q1404 qs31 q69 q1405) rfl rfl rfl hdV_X3_finding ⟨Nat.le_of_ble_eq_true rfl, Nat.le_of_ble_eq_true rfl⟩) (zpreV hK hN (va_recv hK hP (ci := 3) (q0 := 0) rfl rfl) ⟨rfl, hP, hD.weaken (fun _ _ _ _ => trivial)⟩) rfl rfl hl.1 rfl (lv_room (Nat.le_of_ble_eq_true rfl)) dX3_as_49 ⟨Nat.le_of_ble_eq_true rfl, Nat.le_of_ble_eq_true rfl⟩) hS (fun q _ h => mA_le hS.1 q h) (mA_le hS.1) (fun r_49 u t H locs ht hvm hw_49 hB hzz hkk hS => ?_)
        obtain ⟨hP, hD⟩ := hB
        rw [ht] at hP
        have hD := hD.weaken (fun _ _ _ h => mA_le hle_49 _ h)
        obtain ⟨rfl, rfl⟩ := hw_49
        have hP : va_P g.1 zCL (mW g ad (va_up fi 0 (nI 3)) cn xl) _ := hP
        have hD : va_D (mA ad s.heap.size) (mW g ad (va_up fi 0 (nI 3)) cn xl) := hD
        exact W.iret (v := -1000010 - nI 3) hx hb hr (fun t ht hW => ⟨⟨-1000010 - nI 3, (va_up fi 0 (nI 3), cn, xl), rfl, (by unfold opAs; (try rw [zn_nI (n := x) (by omega)]); (try rw [zn_nI (n := k) (by omega)]); rw [zif_t c_5, zif_t c_17, zif_f c_40]; exact ⟨rfl, ⟨rfl, hf8, hf12, hf19, hf29, hc1, hc2, hc3, hc4, hc7, hc11, hc26, hc27, hc28⟩, ⟨_, _, _, _, _, _, _, _, _, hc5, hc6, hc9, hc10, hc24, hc25, hc21, hc22, hf23⟩⟩), by rw [ht]; exact hP, hD⟩, hS.F ht⟩) hS.2.2 dX3_as_52
      · refine lv_iload_n hx hb dX3_as_43 rfl (lv_at hl 1 rfl) ?_
        refine lv_goto (tgt := 52) hx hb dX3_as_44 (by decide) ?_
        exact W.iret (v := nI x) hx hb hr (fun t ht hW => ⟨⟨nI x, (va_up fi 0 (nI 0), cn, xl), rfl, (by unfold opAs; (try rw [zn_nI (n := x) (by omega)]); (try rw [zn_nI (n := k) (by omega)]); rw [zif_t c_5, zif_t c_17, zif_t c_40]; exact ⟨rfl, ⟨rfl, hf8, hf12, hf19, hf29, hc1, hc2, hc3, hc4, hc7, hc11, hc26, hc27, hc28⟩, ⟨_, _, _, _, _, _, _, _, _, hc5, hc6, hc9, hc10, hc24, hc25, hc21, hc22, hf23⟩⟩), by rw [ht]; exact hP, hD⟩, hS.F ht⟩) hS.2.2 dX3_as_52
    · refine lv_ldc hx hb hown (hts _ q1401) dX3_as_20 ?_
      exact W.iret (v := -1000001) hx hb hr (fun t ht hW => ⟨⟨-1000001, (fi, cn, xl), rfl, (by unfold opAs; rw [zif_t c_5, zif_f c_17]; exact ⟨rfl, ⟨hf0, hf8, hf12, hf19, hf29, hc1, hc2, hc3, hc4, hc7, hc11, hc26, hc27, hc28⟩, ⟨_, _, _, _, _, _, _, _, _, hc5, hc6, hc9, hc10, hc24, hc25, hc21, hc22, hf23⟩⟩), by rw [ht]; exact hP, hD⟩, hS.F ht⟩) hS.2.2 dX3_as_22

set_option maxHeartbeats 4000000 in
set_option maxRecDepth 100000 in
theorem m_X3_image (l : Launch) (g : zG) (ad : Nat → Nat) (fi : Nat → Int32) (cn : Nat → Nat → Int32) (xl : Nat → Nat → Int64) (sz : Nat) (S : zS) (hM : MR S fi cn) (hX : MX fi cn xl) (hI : SI S) (k2 : Int32) : Met l yX3_image (ws_ yX3_image cX3_image 3 (some .int)) ({ frames := 1, cells := 0, slots := 0, locals := 25 }) (zPc g [.ref (ad 0), .int k2] (mH g ad fi cn xl sz)) (va_Qi (fun (r9 : Int32) u => r9 = (opImage S k2 ).1 ∧ MR (opImage S k2 ).2 u.1 u.2.1 ∧ MX u.1 u.2.1 u.2.2) (mB g ad sz) (mA ad sz)) 0 0 (mA ad sz) := by
  refine Met.ofW (cc := cX3_image) (maxL := 3) (ret := (some .int)) (by decide) rfl ?_
  intro p e s m args below meth c s₁ B0 hml hv
  obtain ⟨rfl, ⟨hK, hN⟩, hsz, hP, hD⟩ := hv
  have hx := B0.exec
  have hb := B0.bytes
  have hr := B0.returns
  have hts := atoms_spec (ws := ws_ yX3_image cX3_image 3 (some .int)) B0.pre
  have hts : ∀ w ∈ lw_all, w.before _ s = true := fun w h => hts w (List.mem_cons_of_mem _ h)
  have hown : s.vm.findClass RX3 = some m.cls := findClass_of_methodNamed B0.named
  have hlocks := B0.notSynchronized
  subst hsz
  have hD := mD_self s.heap.size hD
  have hS : va_S (mA ad s.heap.size) s.heap s.heap [] := va_S.rf
  have hl := lv_entry ([.ref (ad 0), .int k2]) (n := 3) (Nat.le_of_ble_eq_true rfl)
  rw [lg_entry_eq]
  generalize (lg_sl ([.ref (ad 0), .int k2]) ++ List.replicate (3 - (lg_sl ([.ref (ad 0), .int k2])).length) Slot.unset).toArray = ls at hl ⊢
  have hl : lv_has ls 3 [(0, .ref (ad 0)), (1, .int k2)] := hl
  obtain ⟨hf0, hf8, hf12, hf19, hf29, hc1, hc2, hc3, hc4, hc7, hc11, hc26, hc27, hc28⟩ := hM
  obtain ⟨F5, F6, F9, F10, F24, E25, N21, N22, b23, hc5, hc6, hc9, hc10, hc24, hc25, hc21, hc22, hf23⟩ := hX
  have hB : bOK (S.2.1 4) := hI.1
  have h0 : S.2.1 4 0 ≤ 4 := hB.n4
  have h3 : S.2.1 4 3 ≤ 8 := hB.r8
  have hac := hI.2.2.1
  have hta := hI.2.2.2.1
  have hmn := hI.2.2.2.2.2.2.1
  have htn := hI.2.2.2.2.2.1
  refine lv_iload_n hx hb dX3_image_0 rfl (lv_at hl 1 rfl) ?_
  refine lv_i2l hx hb dX3_image_1 rfl ?_
  refine lv_lconst (v := lN 0) hx hb dX3_image_2 (by decide) ?_
  refine lv_lconst (v := lN 1) hx hb dX3_image_3 (by decide) ?_
  refine vp_callSi (W.runS (As := [.long k2.toInt64, .long (lN 0), .long (lN 1)]) (rest := []) ⟨hx, hb, hml, hown, hts⟩ (m_X3_in l g k2.toInt64 (lN 0) (lN 1)) (va_cwS 3 hts (lw_S q1397 q1398 q69 q1399) rfl rfl rfl hdS_X3_in ⟨Nat.le_of_ble_eq_true rfl, Nat.le_of_ble_eq_true rfl⟩) (zpreS hK hN trivial) rfl rfl hl.1 rfl (lv_room (Nat.le_of_ble_eq_true rfl)) dX3_image_4 ⟨Nat.le_of_ble_eq_true rfl, Nat.le_of_ble_eq_true rfl⟩) (fun r_4 hr_4 => ?_)
  subst hr_4
  refine zti (show _ = zB (zIn k2 0 1) from zB_c (zIn_l k2 (by omega) (by omega))) ?_
  refine zi_neB (tgt := 13) hx hb dX3_image_7 (by decide) (fun c_7 => ?_) (fun c_7 => ?_)
  · obtain ⟨k, rfl, hu_k, hv_k⟩ := zIn_ex c_7 (by omega)
    refine lv_aload_n hx hb dX3_image_13 rfl (lv_at hl 0 rfl) ?_
    have hQ_14 : va_P g.1 zCL [(ad 0, .inr (3, mO ad fi)), (ad 4, .inl (g.2 0, 44, .inl (cn 4)))] _ := hP.sub [0, 4] rfl
    rw [show _ = _ from hc4] at hQ_14
    refine vp_callSi (W.runV (As := []) (rest := []) ⟨hx, hb, hml, hown, hts⟩ (m_X3_isThere l g ad fi (S.2.1 4) hB  ) (cwV 0 hts (lw_V q1517 q1519 qs43 q69 q1520) rfl rfl rfl hdV_X3_isThere ⟨Nat.le_of_ble_eq_true rfl, Nat.le_of_ble_eq_true rfl⟩) (zpreV hK hN (va_recv hK hP (ci := 3) (q0 := 0) rfl rfl) hQ_14) rfl rfl hl.1 rfl (lv_room (Nat.le_of_ble_eq_true rfl)) dX3_image_14 ⟨Nat.le_of_ble_eq_true rfl, Nat.le_of_ble_eq_true rfl⟩) (fun r_14 hr_14 => ?_)
    subst hr_14
    refine zi_neB (tgt := 23) hx hb dX3_image_17 (by decide) (fun c_17 => ?_) (fun c_17 => ?_)
    · refine lv_iconst (v := nI 0) hx hb dX3_image_23 (by decide) ?_
      refine lv_istore_n (lv' := [(2, .int (nI 0)), (0, .ref (ad 0)), (1, .int (nI k))]) hx hb dX3_image_24 rfl hl (by decide) rfl (fun ls hl => ?_)
      refine zloopW (head := 25) (44) (fun j H locs cells slots ls => cells = 0 ∧ slots = 0 ∧ va_P g.1 zCL (mW g ad fi (va_up cn 27 (nF (va_cpy (S.2.1 4) (S.2.1 27) 0 (44 * k) j))) xl) H ∧ va_D (mA ad s.heap.size) (mW g ad fi (va_up cn 27 (nF (va_cpy (S.2.1 4) (S.2.1 27) 0 (44 * k) j))) xl) ∧ va_S (mA ad s.heap.size) s.heap H locs ∧ lv_has ls 3 [(0, .ref (ad 0)), (1, .int (nI k)), (2, .int (nI j))]) (fun j hv_j ih_25 H locs cells slots ls hI => ?_) 0 (Nat.zero_le _) ?_
      · obtain ⟨rfl, rfl, hP, hD, hS, hl⟩ := hI
        refine lv_iload_n hx hb dX3_image_25 rfl (lv_at hl 2 rfl) ?_
        refine lv_bipush (v := nI 44) hx hb dX3_image_26 (by decide) ?_
        refine zc_ge (tgt := 54) hx hb (by omega) (by omega) dX3_image_28 (by decide) (fun c_28 => ?_) (fun c_28 => ?_)
        · obtain rfl : 44 = j := by omega
          refine lv_aload_n hx hb dX3_image_54 rfl (lv_at hl 0 rfl) ?_
          refine va_get (D := g.1) (ci := 3) (v := .ref (ad 26)) (C := RX3) (T := TX3) (N := 30) hx hb hts in_X3 hown hK hP 0 rfl rfl 26 (by decide) (hts _ q1323) (fun _ h9 => h9) rfl dX3_image_55 ?_
          refine lv_iload_n hx hb dX3_image_58 rfl (lv_at hl 1 rfl) ?_
          refine lv_iconst (v := nI 1) hx hb dX3_image_59 (by decide) ?_
          refine zti (show _ = zB True from by rw [zB_t trivial]; rfl) ?_
          refine zasz (f := cn 26) hx hb hK hP hD hS 15 3 rfl rfl (j := k) (by omega) (by decide) dX3_image_60 (fun H locs hP hD hS => ?_)
          rw [hc26] at hP hD
          rw [zF_up] at hP hD
          have hP : va_P g.1 zCL (mW g ad fi (va_up (va_up cn 26 (zF (va_up S.2.2.2 k True))) 27 (nF (va_cpy (S.2.1 4) (S.2.1 27) 0 (44 * k) 44))) xl) _ := hP
          have hD : va_D (mA ad s.heap.size) (mW g ad fi (va_up (va_up cn 26 (zF (va_up S.2.2.2 k True))) 27 (nF (va_cpy (S.2.1 4) (S.2.1 27) 0 (44 * k) 44))) xl) := hD
          refine lv_iconst (v := nI 1) hx hb dX3_image_61 (by decide) ?_
          exact W.iret (v := nI 1) hx hb hr (fun t ht hW => ⟨⟨nI 1, (fi, va_up (va_up cn 26 (zF (va_up S.2.2.2 k True))) 27 (nF (va_cpy (S.2.1 4) (S.2.1 27) 0 (44 * k) 44)), xl), rfl, (by unfold opImage; (try rw [zn_nI (n := k) (by omega)]); rw [zif_t c_7, zif_t c_17]; exact ⟨rfl, ⟨hf0, hf8, hf12, hf19, hf29, hc1, hc2, hc3, hc4, hc7, hc11, rfl, rfl, hc28⟩, ⟨_, _, _, _, _, _, _, _, _, hc5, hc6, hc9, hc10, hc24, hc25, hc21, hc22, hf23⟩⟩), by rw [ht]; exact hP, hD⟩, hS.F ht⟩) hS.2.2 dX3_image_62
        · refine lv_aload_n hx hb dX3_image_31 rfl (lv_at hl 0 rfl) ?_
          refine va_get (D := g.1) (ci := 3) (v := .ref (ad 27)) (C := RX3) (T := TX3) (N := 30) hx hb hts in_X3 hown hK hP 0 rfl rfl 27 (by decide) (hts _ q1324) (fun _ h9 => h9) rfl dX3_image_32 ?_
          refine lv_bipush (v := nI 44) hx hb dX3_image_35 (by decide) ?_
          refine lv_iload_n hx hb dX3_image_37 rfl (lv_at hl 1 rfl) ?_
          refine lv_imul hx hb dX3_image_38 ?_
          refine zti (pk_mul 44 k) ?_
          refine lv_iload_n hx hb dX3_image_39 rfl (lv_at hl 2 rfl) ?_
          refine lv_iadd hx hb dX3_image_40 ?_
          refine zti (nI_add (44 * k) j) ?_
          refine lv_aload_n hx hb dX3_image_41 rfl (lv_at hl 0 rfl) ?_
          refine va_get (D := g.1) (ci := 3) (v := .ref (ad 4)) (C := RX3) (T := TX3) (N := 30) hx hb hts in_X3 hown hK hP 0 rfl rfl 4 (by decide) (hts _ q1301) (fun _ h9 => h9) rfl dX3_image_42 ?_
          refine lv_iload_n hx hb dX3_image_45 rfl (lv_at hl 2 rfl) ?_
          refine zald hx hb hK hP 4 0 rfl rfl (j := j) (by omega) (by decide) dX3_image_46 ?_
          refine zti (congrFun hc4 _) ?_
          refine zti (show (nF (S.2.1 4)) j = nI ((S.2.1 4) j) from rfl) ?_
          refine zast (f := nF (va_cpy (S.2.1 4) (S.2.1 27) 0 (44 * k) j)) hx hb hK hP hD hS 16 0 rfl rfl (j := 44 * k + j) (by omega) (by decide) dX3_image_47 (fun H locs hP hD hS => ?_)
          rw [nF_up] at hP hD
          have hP : va_P g.1 zCL (mW g ad fi (va_up cn 27 (nF (va_up (va_cpy (S.2.1 4) (S.2.1 27) 0 (44 * k) j) (44 * k + j) ((S.2.1 4) j)))) xl) _ := hP
          have hD : va_D (mA ad s.heap.size) (mW g ad fi (va_up cn 27 (nF (va_up (va_cpy (S.2.1 4) (S.2.1 27) 0 (44 * k) j) (44 * k + j) ((S.2.1 4) j)))) xl) := hD
          refine lv_iinc (v := nI (j + 1)) (lv' := [(2, .int (nI (j + 1))), (0, .ref (ad 0)), (1, .int (nI k))]) hx hb dX3_image_48 hl (k := 2) rfl (nI_add j 1) (by decide) rfl (fun ls hl => ?_)
          refine lv_goto (tgt := 25) hx hb dX3_image_51 (by decide) ?_
          rw [show va_up (va_cpy (S.2.1 4) (S.2.1 27) 0 (44 * k) j) (44 * k + j) (S.2.1 4 j) = va_cpy (S.2.1 4) (S.2.1 27) 0 (44 * k) (j + 1) by have := zcpy_s (S.2.1 4) (S.2.1 27) 0 (44 * k) j; rw [Nat.zero_add] at this; exact this] at hP hD
          exact ih_25 (by omega) _ _ _ _ _ ⟨rfl, rfl, hP, hD, hS, lv_sub hl [1, 2, 0] rfl⟩
      · rw [mW_up (cn := cn) (k := 27) (f := nF (va_cpy (S.2.1 4) (S.2.1 27) 0 (44 * k) 0)) (by rw [zcpy_0]; exact hc27)] at hP
        rw [mW_up (cn := cn) (k := 27) (f := nF (va_cpy (S.2.1 4) (S.2.1 27) 0 (44 * k) 0)) (by rw [zcpy_0]; exact hc27)] at hD
        have hP : va_P g.1 zCL (mW g ad fi (va_up cn 27 (nF (va_cpy (S.2.1 4) (S.2.1 27) 0 (44 * k) 0))) xl) _ := hP
        have hD : va_D (mA ad s.heap.size) (mW g ad fi (va_up cn 27 (nF (va_cpy (S.2.1 4) (S.2.1 27) 0 (44 * k) 0))) xl) := hD
        exact ⟨rfl, rfl, hP, hD, hS, lv_sub hl [1, 2, 0] rfl⟩
    · refine lv_ldc hx hb hown (hts _ q1475) dX3_image_20 ?_
      exact W.iret (v := -1000002) hx hb hr (fun t ht hW => ⟨⟨-1000002, (fi, cn, xl), rfl, (by unfold opImage; (try rw [zn_nI (n := k) (by omega)]); rw [zif_t c_7, zif_f c_17]; exact ⟨rfl, ⟨hf0, hf8, hf12, hf19, hf29, hc1, hc2, hc3, hc4, hc7, hc11, hc26, hc27, hc28⟩, ⟨_, _, _, _, _, _, _, _, _, hc5, hc6, hc9, hc10, hc24, hc25, hc21, hc22, hf23⟩⟩), by rw [ht]; exact hP, hD⟩, hS.F ht⟩) hS.2.2 dX3_image_22
  · refine lv_ldc hx hb hown (hts _ q1401) dX3_image_10 ?_
    exact W.iret (v := -1000001) hx hb hr (fun t ht hW => ⟨⟨-1000001, (fi, cn, xl), rfl, (by unfold opImage; rw [zif_f c_7]; exact ⟨rfl, ⟨hf0, hf8, hf12, hf19, hf29, hc1, hc2, hc3, hc4, hc7, hc11, hc26, hc27, hc28⟩, ⟨_, _, _, _, _, _, _, _, _, hc5, hc6, hc9, hc10, hc24, hc25, hc21, hc22, hf23⟩⟩), by rw [ht]; exact hP, hD⟩, hS.F ht⟩) hS.2.2 dX3_image_12

set_option maxHeartbeats 4000000 in
set_option maxRecDepth 100000 in
theorem m_X3_restore (l : Launch) (g : zG) (ad : Nat → Nat) (fi : Nat → Int32) (cn : Nat → Nat → Int32) (xl : Nat → Nat → Int64) (sz : Nat) (S : zS) (hM : MR S fi cn) (hX : MX fi cn xl) (hI : SI S) (k2 : Int32) : Met l yX3_restore (ws_ yX3_restore cX3_restore 3 (some .int)) ({ frames := 1, cells := 0, slots := 0, locals := 25 }) (zPc g [.ref (ad 0), .int k2] (mH g ad fi cn xl sz)) (va_Qi (fun (r9 : Int32) u => r9 = (opRestore S k2 ).1 ∧ MR (opRestore S k2 ).2 u.1 u.2.1 ∧ MX u.1 u.2.1 u.2.2) (mB g ad sz) (mA ad sz)) 0 0 (mA ad sz) := by
  refine Met.ofW (cc := cX3_restore) (maxL := 3) (ret := (some .int)) (by decide) rfl ?_
  intro p e s m args below meth c s₁ B0 hml hv
  obtain ⟨rfl, ⟨hK, hN⟩, hsz, hP, hD⟩ := hv
  have hx := B0.exec
  have hb := B0.bytes
  have hr := B0.returns
  have hts := atoms_spec (ws := ws_ yX3_restore cX3_restore 3 (some .int)) B0.pre
  have hts : ∀ w ∈ lw_all, w.before _ s = true := fun w h => hts w (List.mem_cons_of_mem _ h)
  have hown : s.vm.findClass RX3 = some m.cls := findClass_of_methodNamed B0.named
  have hlocks := B0.notSynchronized
  subst hsz
  have hD := mD_self s.heap.size hD
  have hS : va_S (mA ad s.heap.size) s.heap s.heap [] := va_S.rf
  have hl := lv_entry ([.ref (ad 0), .int k2]) (n := 3) (Nat.le_of_ble_eq_true rfl)
  rw [lg_entry_eq]
  generalize (lg_sl ([.ref (ad 0), .int k2]) ++ List.replicate (3 - (lg_sl ([.ref (ad 0), .int k2])).length) Slot.unset).toArray = ls at hl ⊢
  have hl : lv_has ls 3 [(0, .ref (ad 0)), (1, .int k2)] := hl
  obtain ⟨hf0, hf8, hf12, hf19, hf29, hc1, hc2, hc3, hc4, hc7, hc11, hc26, hc27, hc28⟩ := hM
  obtain ⟨F5, F6, F9, F10, F24, E25, N21, N22, b23, hc5, hc6, hc9, hc10, hc24, hc25, hc21, hc22, hf23⟩ := hX
  have hB : bOK (S.2.1 4) := hI.1
  have h0 : S.2.1 4 0 ≤ 4 := hB.n4
  have h3 : S.2.1 4 3 ≤ 8 := hB.r8
  have hac := hI.2.2.1
  have hta := hI.2.2.2.1
  have hmn := hI.2.2.2.2.2.2.1
  have htn := hI.2.2.2.2.2.1
  refine lv_iload_n hx hb dX3_restore_0 rfl (lv_at hl 1 rfl) ?_
  refine lv_i2l hx hb dX3_restore_1 rfl ?_
  refine lv_lconst (v := lN 0) hx hb dX3_restore_2 (by decide) ?_
  refine lv_lconst (v := lN 1) hx hb dX3_restore_3 (by decide) ?_
  refine vp_callSi (W.runS (As := [.long k2.toInt64, .long (lN 0), .long (lN 1)]) (rest := []) ⟨hx, hb, hml, hown, hts⟩ (m_X3_in l g k2.toInt64 (lN 0) (lN 1)) (va_cwS 3 hts (lw_S q1397 q1398 q69 q1399) rfl rfl rfl hdS_X3_in ⟨Nat.le_of_ble_eq_true rfl, Nat.le_of_ble_eq_true rfl⟩) (zpreS hK hN trivial) rfl rfl hl.1 rfl (lv_room (Nat.le_of_ble_eq_true rfl)) dX3_restore_4 ⟨Nat.le_of_ble_eq_true rfl, Nat.le_of_ble_eq_true rfl⟩) (fun r_4 hr_4 => ?_)
  subst hr_4
  refine zti (show _ = zB (zIn k2 0 1) from zB_c (zIn_l k2 (by omega) (by omega))) ?_
  refine zi_neB (tgt := 13) hx hb dX3_restore_7 (by decide) (fun c_7 => ?_) (fun c_7 => ?_)
  · obtain ⟨k, rfl, hu_k, hv_k⟩ := zIn_ex c_7 (by omega)
    refine lv_aload_n hx hb dX3_restore_13 rfl (lv_at hl 0 rfl) ?_
    refine va_get (D := g.1) (ci := 3) (v := .ref (ad 26)) (C := RX3) (T := TX3) (N := 30) hx hb hts in_X3 hown hK hP 0 rfl rfl 26 (by decide) (hts _ q1323) (fun _ h9 => h9) rfl dX3_restore_14 ?_
    refine lv_iload_n hx hb dX3_restore_17 rfl (lv_at hl 1 rfl) ?_
    refine zalz hx hb hK hP 15 3 rfl rfl (j := k) (by omega) (by decide) dX3_restore_18 ?_
    refine zti (congrFun hc26 _) ?_
    refine zti (show (zF S.2.2.2) k = zB (S.2.2.2 k) from rfl) ?_
    refine zi_neB (tgt := 25) hx hb dX3_restore_19 (by decide) (fun c_19 => ?_) (fun c_19 => ?_)
    · refine lv_iconst (v := nI 0) hx hb dX3_restore_25 (by decide) ?_
      refine lv_istore_n (lv' := [(2, .int (nI 0)), (0, .ref (ad 0)), (1, .int (nI k))]) hx hb dX3_restore_26 rfl hl (by decide) rfl (fun ls hl => ?_)
      refine zloopW (head := 27) (44) (fun j H locs cells slots ls => cells = 0 ∧ slots = 0 ∧ va_P g.1 zCL (mW g ad fi (va_up cn 4 (nF (va_cpy (fun j => S.2.1 27 (44 * k + j)) (S.2.1 4) 0 0 j))) xl) H ∧ va_D (mA ad s.heap.size) (mW g ad fi (va_up cn 4 (nF (va_cpy (fun j => S.2.1 27 (44 * k + j)) (S.2.1 4) 0 0 j))) xl) ∧ va_S (mA ad s.heap.size) s.heap H locs ∧ lv_has ls 3 [(0, .ref (ad 0)), (1, .int (nI k)), (2, .int (nI j))]) (fun j hv_j ih_27 H locs cells slots ls hI => ?_) 0 (Nat.zero_le _) ?_
      · obtain ⟨rfl, rfl, hP, hD, hS, hl⟩ := hI
        refine lv_iload_n hx hb dX3_restore_27 rfl (lv_at hl 2 rfl) ?_
        refine lv_bipush (v := nI 44) hx hb dX3_restore_28 (by decide) ?_
        refine zc_ge (tgt := 56) hx hb (by omega) (by omega) dX3_restore_30 (by decide) (fun c_30 => ?_) (fun c_30 => ?_)
        · obtain rfl : 44 = j := by omega
          obtain ⟨hP, hD⟩ := hP.exi hD 4 (f' := nF (fun j => S.2.1 27 (44 * k + j))) rfl (fun j hj => by show nI (va_cpy _ _ 0 0 44 j) = nI _; rw [zcpy_in (by omega) (by omega)]; rw [Nat.zero_add, Nat.sub_zero])
          have hP : va_P g.1 zCL (mW g ad fi (va_up cn 4 (nF (fun j => S.2.1 27 (44 * k + j)))) xl) _ := hP
          have hD : va_D (mA ad s.heap.size) (mW g ad fi (va_up cn 4 (nF (fun j => S.2.1 27 (44 * k + j)))) xl) := hD
          refine lv_aload_n hx hb dX3_restore_56 rfl (lv_at hl 0 rfl) ?_
          refine lv_iconst (v := nI 0) hx hb dX3_restore_57 (by decide) ?_
          refine va_put (D := g.1) (ci := 3) (v := .int (nI 0)) (ty := .int) (C := RX3) (T := TX3) (N := 30) hx hb hts in_X3 tyX3 tyX3_ok nmX3 hown hK hP hD hS 0 rfl rfl 8 (by decide) (hts _ q1305) (fun _ h9 => h9) rfl (by decide +kernel) rfl rfl (Nat.le_of_ble_eq_true rfl) dX3_restore_58 (fun H locs hP hD hS => ?_)
          have hP : va_P g.1 zCL (mW g ad (va_up fi 8 (nI 0)) (va_up cn 4 (nF (fun j => S.2.1 27 (44 * k + j)))) xl) _ := hP
          have hD : va_D (mA ad s.heap.size) (mW g ad (va_up fi 8 (nI 0)) (va_up cn 4 (nF (fun j => S.2.1 27 (44 * k + j)))) xl) := hD
          refine lv_iconst (v := nI 1) hx hb dX3_restore_61 (by decide) ?_
          exact W.iret (v := nI 1) hx hb hr (fun t ht hW => ⟨⟨nI 1, (va_up fi 8 (nI 0), va_up cn 4 (nF (fun j => S.2.1 27 (44 * k + j))), xl), rfl, (by unfold opRestore; (try rw [zn_nI (n := k) (by omega)]); rw [zif_t c_7, zif_t c_19]; exact ⟨rfl, ⟨hf0, rfl, hf12, hf19, hf29, hc1, hc2, hc3, rfl, hc7, hc11, hc26, hc27, hc28⟩, ⟨_, _, _, _, _, _, _, _, _, hc5, hc6, hc9, hc10, hc24, hc25, hc21, hc22, hf23⟩⟩), by rw [ht]; exact hP, hD⟩, hS.F ht⟩) hS.2.2 dX3_restore_62
        · refine lv_aload_n hx hb dX3_restore_33 rfl (lv_at hl 0 rfl) ?_
          refine va_get (D := g.1) (ci := 3) (v := .ref (ad 4)) (C := RX3) (T := TX3) (N := 30) hx hb hts in_X3 hown hK hP 0 rfl rfl 4 (by decide) (hts _ q1301) (fun _ h9 => h9) rfl dX3_restore_34 ?_
          refine lv_iload_n hx hb dX3_restore_37 rfl (lv_at hl 2 rfl) ?_
          refine lv_aload_n hx hb dX3_restore_38 rfl (lv_at hl 0 rfl) ?_
          refine va_get (D := g.1) (ci := 3) (v := .ref (ad 27)) (C := RX3) (T := TX3) (N := 30) hx hb hts in_X3 hown hK hP 0 rfl rfl 27 (by decide) (hts _ q1324) (fun _ h9 => h9) rfl dX3_restore_39 ?_
          refine lv_bipush (v := nI 44) hx hb dX3_restore_42 (by decide) ?_
          refine lv_iload_n hx hb dX3_restore_44 rfl (lv_at hl 1 rfl) ?_
          refine lv_imul hx hb dX3_restore_45 ?_
          refine zti (pk_mul 44 k) ?_
          refine lv_iload_n hx hb dX3_restore_46 rfl (lv_at hl 2 rfl) ?_
          refine lv_iadd hx hb dX3_restore_47 ?_
          refine zti (nI_add (44 * k) j) ?_
          refine zald hx hb hK hP 16 0 rfl rfl (j := 44 * k + j) (by omega) (by decide) dX3_restore_48 ?_
          refine zti (congrFun hc27 _) ?_
          refine zti (show (nF (S.2.1 27)) (44 * k + j) = nI ((S.2.1 27) (44 * k + j)) from rfl) ?_
          refine zast (f := nF (va_cpy (fun j => S.2.1 27 (44 * k + j)) (S.2.1 4) 0 0 j)) hx hb hK hP hD hS 4 0 rfl rfl (j := j) (by omega) (by decide) dX3_restore_49 (fun H locs hP hD hS => ?_)
          rw [nF_up] at hP hD
          have hP : va_P g.1 zCL (mW g ad fi (va_up cn 4 (nF (va_up (va_cpy (fun j => S.2.1 27 (44 * k + j)) (S.2.1 4) 0 0 j) j ((S.2.1 27) (44 * k + j))))) xl) _ := hP
          have hD : va_D (mA ad s.heap.size) (mW g ad fi (va_up cn 4 (nF (va_up (va_cpy (fun j => S.2.1 27 (44 * k + j)) (S.2.1 4) 0 0 j) j ((S.2.1 27) (44 * k + j))))) xl) := hD
          refine lv_iinc (v := nI (j + 1)) (lv' := [(2, .int (nI (j + 1))), (0, .ref (ad 0)), (1, .int (nI k))]) hx hb dX3_restore_50 hl (k := 2) rfl (nI_add j 1) (by decide) rfl (fun ls hl => ?_)
          refine lv_goto (tgt := 27) hx hb dX3_restore_53 (by decide) ?_
          rw [show va_up (va_cpy (fun j => S.2.1 27 (44 * k + j)) (S.2.1 4) 0 0 j) j (S.2.1 27 (44 * k + j)) = va_cpy (fun j => S.2.1 27 (44 * k + j)) (S.2.1 4) 0 0 (j + 1) by have := zcpy_s (fun j => S.2.1 27 (44 * k + j)) (S.2.1 4) 0 0 j; simp only [Nat.zero_add] at this; exact this] at hP hD
          exact ih_27 (by omega) _ _ _ _ _ ⟨rfl, rfl, hP, hD, hS, lv_sub hl [1, 2, 0] rfl⟩
      · rw [mW_up (cn := cn) (k := 4) (f := nF (va_cpy (fun j => S.2.1 27 (44 * k + j)) (S.2.1 4) 0 0 0)) (by rw [zcpy_0]; exact hc4)] at hP
        rw [mW_up (cn := cn) (k := 4) (f := nF (va_cpy (fun j => S.2.1 27 (44 * k + j)) (S.2.1 4) 0 0 0)) (by rw [zcpy_0]; exact hc4)] at hD
        have hP : va_P g.1 zCL (mW g ad fi (va_up cn 4 (nF (va_cpy (fun j => S.2.1 27 (44 * k + j)) (S.2.1 4) 0 0 0))) xl) _ := hP
        have hD : va_D (mA ad s.heap.size) (mW g ad fi (va_up cn 4 (nF (va_cpy (fun j => S.2.1 27 (44 * k + j)) (S.2.1 4) 0 0 0))) xl) := hD
        exact ⟨rfl, rfl, hP, hD, hS, lv_sub hl [1, 2, 0] rfl⟩
    · refine lv_ldc hx hb hown (hts _ q1475) dX3_restore_22 ?_
      exact W.iret (v := -1000002) hx hb hr (fun t ht hW => ⟨⟨-1000002, (fi, cn, xl), rfl, (by unfold opRestore; (try rw [zn_nI (n := k) (by omega)]); rw [zif_t c_7, zif_f c_19]; exact ⟨rfl, ⟨hf0, hf8, hf12, hf19, hf29, hc1, hc2, hc3, hc4, hc7, hc11, hc26, hc27, hc28⟩, ⟨_, _, _, _, _, _, _, _, _, hc5, hc6, hc9, hc10, hc24, hc25, hc21, hc22, hf23⟩⟩), by rw [ht]; exact hP, hD⟩, hS.F ht⟩) hS.2.2 dX3_restore_24
  · refine lv_ldc hx hb hown (hts _ q1401) dX3_restore_10 ?_
    exact W.iret (v := -1000001) hx hb hr (fun t ht hW => ⟨⟨-1000001, (fi, cn, xl), rfl, (by unfold opRestore; rw [zif_f c_7]; exact ⟨rfl, ⟨hf0, hf8, hf12, hf19, hf29, hc1, hc2, hc3, hc4, hc7, hc11, hc26, hc27, hc28⟩, ⟨_, _, _, _, _, _, _, _, _, hc5, hc6, hc9, hc10, hc24, hc25, hc21, hc22, hf23⟩⟩), by rw [ht]; exact hP, hD⟩, hS.F ht⟩) hS.2.2 dX3_restore_12
