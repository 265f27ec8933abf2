/-! the twin: public methods of rows that grow -/
set_option maxHeartbeats 4000000 in
set_option maxRecDepth 100000 in
theorem m_X3_inflate (l : Launch) (g : zG) (ad : Nat → Nat) (fi : Nat → Int32) (cn : Nat → Nat → Int32) (xl : Nat → Nat → Int64) (sz : Nat) (S : zS) (hM : MR S fi cn) (hX : MX fi cn xl) (hI : SI S) (hA24 : S.1 8 < 24) : Met l yX3_inflate (ws_ yX3_inflate cX3_inflate 3 (some .int)) ({ frames := 4, cells := 0, slots := 0, locals := 95 }) (zPc g [.ref (ad 0)] (mH g ad fi cn xl sz)) (va_Qi (fun (r9 : Int32) u => r9 = (opInflate S ).1 ∧ MR (opInflate S ).2 u.1 u.2.1 ∧ MX u.1 u.2.1 u.2.2) (mB g ad sz) (mA ad sz)) 0 0 (mA ad sz) := by
  refine Met.ofW (cc := cX3_inflate) (maxL := 3) (ret := (some .int)) (by decide) rfl ?_
  intro p e s m args below meth c s₁ B0 hml hv
  obtain ⟨rfl, ⟨hK, hN⟩, hsz, hP, hD⟩ := hv
  have hx := B0.exec
  have hb := B0.bytes
  have hr := B0.returns
  have hts := atoms_spec (ws := ws_ yX3_inflate cX3_inflate 3 (some .int)) B0.pre
  have hts : ∀ w ∈ lw_all, w.before _ s = true := fun w h => hts w (List.mem_cons_of_mem _ h)
  have hown : s.vm.findClass RX3 = some m.cls := findClass_of_methodNamed B0.named
  have hlocks := B0.notSynchronized
  subst hsz
  have hD := mD_self s.heap.size hD
  have hS : va_S (mA ad s.heap.size) s.heap s.heap [] := va_S.rf
  have hl := lv_entry ([.ref (ad 0)]) (n := 3) (Nat.le_of_ble_eq_true rfl)
  rw [lg_entry_eq]
  generalize (lg_sl ([.ref (ad 0)]) ++ List.replicate (3 - (lg_sl ([.ref (ad 0)])).length) Slot.unset).toArray = ls at hl ⊢
  have hl : lv_has ls 3 [(0, .ref (ad 0))] := hl
  obtain ⟨hf0, hf8, hf12, hf19, hf29, hc1, hc2, hc3, hc4, hc7, hc11, hc26, hc27, hc28⟩ := hM
  obtain ⟨F5, F6, F9, F10, F24, E25, N21, N22, b23, hc5, hc6, hc9, hc10, hc24, hc25, hc21, hc22, hf23⟩ := hX
  have hB : bOK (S.2.1 4) := hI.1
  have h0 : S.2.1 4 0 ≤ 4 := hB.n4
  have h3 : S.2.1 4 3 ≤ 8 := hB.r8
  have hac := hI.2.2.1
  have hta := hI.2.2.2.1
  have hmn := hI.2.2.2.2.2.2.1
  have htn := hI.2.2.2.2.2.1
  refine lv_aload_n hx hb dX3_inflate_0 rfl (lv_at hl 0 rfl) ?_
  have hQ_1 : va_P g.1 zCL [(ad 0, .inr (3, mO ad fi)), (ad 4, .inl (g.2 0, 44, .inl (cn 4)))] _ := hP.sub [0, 4] rfl
  rw [show _ = _ from hc4] at hQ_1
  refine vp_callSi (W.runV (As := []) (rest := []) ⟨hx, hb, hml, hown, hts⟩ (m_X3_isThere l g ad fi (S.2.1 4) hB  ) (cwV 0 hts (lw_V q1517 q1519 qs43 q69 q1520) rfl rfl rfl hdV_X3_isThere ⟨Nat.le_of_ble_eq_true rfl, Nat.le_of_ble_eq_true rfl⟩) (zpreV hK hN (va_recv hK hP (ci := 3) (q0 := 0) rfl rfl) hQ_1) rfl rfl hl.1 rfl (lv_room (Nat.le_of_ble_eq_true rfl)) dX3_inflate_1 ⟨Nat.le_of_ble_eq_true rfl, Nat.le_of_ble_eq_true rfl⟩) (fun r_1 hr_1 => ?_)
  subst hr_1
  refine zi_neB (tgt := 10) hx hb dX3_inflate_4 (by decide) (fun c_4 => ?_) (fun c_4 => ?_)
  · refine lv_aload_n hx hb dX3_inflate_10 rfl (lv_at hl 0 rfl) ?_
    refine lv_aload_n hx hb dX3_inflate_11 rfl (lv_at hl 0 rfl) ?_
    refine va_get (D := g.1) (ci := 3) (v := .ref (ad 4)) (C := RX3) (T := TX3) (N := 30) hx hb hts in_X3 hown hK hP 0 rfl rfl 4 (by decide) (hts _ q1301) (fun _ h9 => h9) rfl dX3_inflate_12 ?_
    refine lv_iconst (v := nI 1) hx hb dX3_inflate_15 (by decide) ?_
    have hle_16 := hS.1
    refine va_calli (va_runV (As := [.ref (ad 4), .int (nI 1)]) (rest := []) ⟨hx, hb, hml, hown, hts⟩ (m_X3_layGrown_4 l g ad fi cn xl _ (S.2.1 4) F9 F10 hc4 hc9 hc10 hB 1 (by omega)) (cwV 2 hts (lw_V q1531 q1533 qs44 q69 q1534) rfl rfl rfl hdV_X3_layGrown ⟨Nat.le_of_ble_eq_true rfl, Nat.le_of_ble_eq_true rfl⟩) (zpreV hK hN (va_recv hK hP (ci := 3) (q0 := 0) rfl rfl) ⟨rfl, hP, hD.weaken (fun _ _ _ _ => trivial)⟩) rfl rfl hl.1 rfl (lv_room (Nat.le_of_ble_eq_true rfl)) dX3_inflate_16 ⟨Nat.le_of_ble_eq_true rfl, Nat.le_of_ble_eq_true rfl⟩) hS (fun q _ h => mA_le hS.1 q h) (mA_le hS.1) (fun r_16 u t H locs ht hvm hw_16 hB hzz hkk hS => ?_)
    obtain ⟨hP, hD⟩ := hB
    rw [ht] at hP
    have hD := hD.weaken (fun _ _ _ h => mA_le hle_16 _ h)
    obtain ⟨rfl, Lg19, Pg19, rfl, hG_19⟩ := hw_16
    have hP : va_P g.1 zCL (mW g ad fi (va_up (va_up cn 9 (nF Lg19)) 10 (nF Pg19)) xl) _ := hP
    have hD : va_D (mA ad s.heap.size) (mW g ad fi (va_up (va_up cn 9 (nF Lg19)) 10 (nF Pg19)) xl) := hD
    refine zti (show _ = nI ((grl (S.2.1 4) 1).length) from zif_t (gok_1 hB).1) ?_
    have hg1 := (gok_1 hB).2
    have hLg := hG_19 (gok_1 hB).1
    refine lv_istore_n (lv' := [(1, .int (nI ((grl (S.2.1 4) 1).length))), (0, .ref (ad 0))]) hx hb dX3_inflate_19 rfl hl (by decide) rfl (fun ls hl => ?_)
    refine lv_iload_n hx hb dX3_inflate_20 rfl (lv_at hl 0 rfl) ?_
    refine lv_bipush (v := nI 8) hx hb dX3_inflate_21 (by decide) ?_
    refine zc_le (tgt := 29) hx hb (by omega) (by omega) dX3_inflate_23 (by decide) (fun c_23 => ?_) (fun c_23 => ?_)
    · refine lv_aload_n hx hb dX3_inflate_29 rfl (lv_at hl 1 rfl) ?_
      have hle_30 := hS.1
      refine va_callv (va_runV (As := []) (rest := []) ⟨hx, hb, hml, hown, hts⟩ (m_X3_keeps l g ad fi (va_up (va_up cn 9 (nF Lg19)) 10 (nF Pg19)) xl _ (S.2.1 4) (S.2.1 7) (S.1 8) hc4 hc7 hf8 (by omega)) (cwV 0 hts (lw_V q1493 q1495 qs42 q69 q1496) rfl rfl rfl hdV_X3_keeps ⟨Nat.le_of_ble_eq_true rfl, Nat.le_of_ble_eq_true rfl⟩) (zpreV hK hN (va_recv hK hP (ci := 3) (q0 := 0) rfl rfl) ⟨rfl, hP, hD.weaken (fun _ _ _ _ => trivial)⟩) rfl rfl hl.1 rfl (lv_room (Nat.le_of_ble_eq_true rfl)) dX3_inflate_30 ⟨Nat.le_of_ble_eq_true rfl, Nat.le_of_ble_eq_true rfl⟩) hS (fun q _ h => mA_le hS.1 q h) (mA_le hS.1) (fun u t H locs ht hvm hw_30 hB hzz hkk hS => ?_)
      obtain ⟨hP, hD⟩ := hB
      rw [ht] at hP
      have hD := hD.weaken (fun _ _ _ h => mA_le hle_30 _ h)
      obtain ⟨_, rfl⟩ := hw_30
      have hP : va_P g.1 zCL (mW g ad (va_up fi 8 (nI (S.1 8 + 1))) (va_up (va_up (va_up cn 7 (nF (va_cpy (S.2.1 4) (S.2.1 7) 0 (44 * (S.1 8)) 44))) 9 (nF Lg19)) 10 (nF Pg19)) xl) _ := hP
      have hD : va_D (mA ad s.heap.size) (mW g ad (va_up fi 8 (nI (S.1 8 + 1))) (va_up (va_up (va_up cn 7 (nF (va_cpy (S.2.1 4) (S.2.1 7) 0 (44 * (S.1 8)) 44))) 9 (nF Lg19)) 10 (nF Pg19)) xl) := hD
      refine lv_iconst (v := nI 0) hx hb dX3_inflate_33 (by decide) ?_
      refine lv_istore_n (lv' := [(2, .int (nI 0)), (1, .int (nI ((grl (S.2.1 4) 1).length))), (0, .ref (ad 0))]) hx hb dX3_inflate_34 rfl hl (by decide) rfl (fun ls hl => ?_)
      refine zloopW (head := 35) ((grl (S.2.1 4) 1).length) (fun k H locs cells slots ls => cells = 0 ∧ slots = 0 ∧ va_P g.1 zCL (mW g ad (va_up fi 8 (nI (S.1 8 + 1))) (va_up (va_up (va_up (va_up cn 4 (nF (va_cpy Lg19 (S.2.1 4) 0 4 k))) 7 (nF (va_cpy (S.2.1 4) (S.2.1 7) 0 (44 * (S.1 8)) 44))) 9 (nF Lg19)) 10 (nF Pg19)) xl) H ∧ va_D (mA ad s.heap.size) (mW g ad (va_up fi 8 (nI (S.1 8 + 1))) (va_up (va_up (va_up (va_up cn 4 (nF (va_cpy Lg19 (S.2.1 4) 0 4 k))) 7 (nF (va_cpy (S.2.1 4) (S.2.1 7) 0 (44 * (S.1 8)) 44))) 9 (nF Lg19)) 10 (nF Pg19)) xl) ∧ va_S (mA ad s.heap.size) s.heap H locs ∧ lv_has ls 3 [(0, .ref (ad 0)), (1, .int (nI ((grl (S.2.1 4) 1).length))), (2, .int (nI k))]) (fun k hv_k ih_35 H locs cells slots ls hI => ?_) 0 (Nat.zero_le _) ?_
      · obtain ⟨rfl, rfl, hP, hD, hS, hl⟩ := hI
        refine lv_iload_n hx hb dX3_inflate_35 rfl (lv_at hl 2 rfl) ?_
        refine lv_iload_n hx hb dX3_inflate_36 rfl (lv_at hl 1 rfl) ?_
        refine zc_ge (tgt := 60) hx hb (by omega) (by omega) dX3_inflate_37 (by decide) (fun c_37 => ?_) (fun c_37 => ?_)
        · obtain rfl : (grl (S.2.1 4) 1).length = k := by omega
          rw [show va_cpy Lg19 (S.2.1 4) 0 4 (grl (S.2.1 4) 1).length = va_cpy (fun q => (grl (S.2.1 4) 1).getD q 0) (S.2.1 4) 0 4 (grl (S.2.1 4) 1).length from zcpy_ext (fun k hk => by rw [Nat.zero_add]; exact hLg k hk)] at hP hD
          have hP : va_P g.1 zCL (mW g ad (va_up fi 8 (nI (S.1 8 + 1))) (va_up (va_up (va_up (va_up cn 4 (nF (va_cpy (fun q => (grl (S.2.1 4) 1).getD q 0) (S.2.1 4) 0 4 (grl (S.2.1 4) 1).length))) 7 (nF (va_cpy (S.2.1 4) (S.2.1 7) 0 (44 * (S.1 8)) 44))) 9 (nF Lg19)) 10 (nF Pg19)) xl) _ := hP
          have hD : va_D (mA ad s.heap.size) (mW g ad (va_up fi 8 (nI (S.1 8 + 1))) (va_up (va_up (va_up (va_up cn 4 (nF (va_cpy (fun q => (grl (S.2.1 4) 1).getD q 0) (S.2.1 4) 0 4 (grl (S.2.1 4) 1).length))) 7 (nF (va_cpy (S.2.1 4) (S.2.1 7) 0 (44 * (S.1 8)) 44))) 9 (nF Lg19)) 10 (nF Pg19)) xl) := hD
          refine lv_aload_n hx hb dX3_inflate_60 rfl (lv_at hl 0 rfl) ?_
          refine va_get (D := g.1) (ci := 3) (v := .ref (ad 4)) (C := RX3) (T := TX3) (N := 30) hx hb hts in_X3 hown hK hP 0 rfl rfl 4 (by decide) (hts _ q1301) (fun _ h9 => h9) rfl dX3_inflate_61 ?_
          refine lv_iconst (v := nI 3) hx hb dX3_inflate_64 (by decide) ?_
          refine lv_iload_n hx hb dX3_inflate_65 rfl (lv_at hl 1 rfl) ?_
          refine zast (f := nF (va_cpy (fun q => (grl (S.2.1 4) 1).getD q 0) (S.2.1 4) 0 4 (grl (S.2.1 4) 1).length)) hx hb hK hP hD hS 4 0 rfl rfl (j := 3) (by omega) (by decide) dX3_inflate_66 (fun H locs hP hD hS => ?_)
          rw [nF_up] at hP hD
          have hP : va_P g.1 zCL (mW g ad (va_up fi 8 (nI (S.1 8 + 1))) (va_up (va_up (va_up (va_up cn 4 (nF (va_up (va_cpy (fun q => (grl (S.2.1 4) 1).getD q 0) (S.2.1 4) 0 4 (grl (S.2.1 4) 1).length) 3 ((grl (S.2.1 4) 1).length)))) 7 (nF (va_cpy (S.2.1 4) (S.2.1 7) 0 (44 * (S.1 8)) 44))) 9 (nF Lg19)) 10 (nF Pg19)) xl) _ := hP
          have hD : va_D (mA ad s.heap.size) (mW g ad (va_up fi 8 (nI (S.1 8 + 1))) (va_up (va_up (va_up (va_up cn 4 (nF (va_up (va_cpy (fun q => (grl (S.2.1 4) 1).getD q 0) (S.2.1 4) 0 4 (grl (S.2.1 4) 1).length) 3 ((grl (S.2.1 4) 1).length)))) 7 (nF (va_cpy (S.2.1 4) (S.2.1 7) 0 (44 * (S.1 8)) 44))) 9 (nF Lg19)) 10 (nF Pg19)) xl) := hD
          refine lv_iload_n hx hb dX3_inflate_67 rfl (lv_at hl 1 rfl) ?_
          exact W.iret (v := nI ((grl (S.2.1 4) 1).length)) hx hb hr (fun t ht hW => ⟨⟨nI ((grl (S.2.1 4) 1).length), (va_up fi 8 (nI (S.1 8 + 1)), va_up (va_up (va_up (va_up cn 4 (nF (va_up (va_cpy (fun q => (grl (S.2.1 4) 1).getD q 0) (S.2.1 4) 0 4 (grl (S.2.1 4) 1).length) 3 ((grl (S.2.1 4) 1).length)))) 7 (nF (va_cpy (S.2.1 4) (S.2.1 7) 0 (44 * (S.1 8)) 44))) 9 (nF Lg19)) 10 (nF Pg19), xl), rfl, (by unfold opInflate; rw [zif_t c_4, zif_t c_23]; exact ⟨rfl, ⟨hf0, rfl, hf12, hf19, hf29, hc1, hc2, hc3, rfl, rfl, hc11, hc26, hc27, hc28⟩, ⟨_, _, _, _, _, _, _, _, _, hc5, hc6, rfl, rfl, hc24, hc25, hc21, hc22, hf23⟩⟩), by rw [ht]; exact hP, hD⟩, hS.F ht⟩) hS.2.2 dX3_inflate_68
        · refine lv_aload_n hx hb dX3_inflate_40 rfl (lv_at hl 0 rfl) ?_
          refine va_get (D := g.1) (ci := 3) (v := .ref (ad 4)) (C := RX3) (T := TX3) (N := 30) hx hb hts in_X3 hown hK hP 0 rfl rfl 4 (by decide) (hts _ q1301) (fun _ h9 => h9) rfl dX3_inflate_41 ?_
          refine lv_iconst (v := nI 4) hx hb dX3_inflate_44 (by decide) ?_
          refine lv_iload_n hx hb dX3_inflate_45 rfl (lv_at hl 2 rfl) ?_
          refine lv_iadd hx hb dX3_inflate_46 ?_
          refine zti (nI_add 4 k) ?_
          refine lv_aload_n hx hb dX3_inflate_47 rfl (lv_at hl 0 rfl) ?_
          refine va_get (D := g.1) (ci := 3) (v := .ref (ad 9)) (C := RX3) (T := TX3) (N := 30) hx hb hts in_X3 hown hK hP 0 rfl rfl 9 (by decide) (hts _ q1306) (fun _ h9 => h9) rfl dX3_inflate_48 ?_
          refine lv_iload_n hx hb dX3_inflate_51 rfl (lv_at hl 2 rfl) ?_
          refine zald hx hb hK hP 8 0 rfl rfl (j := k) (by omega) (by decide) dX3_inflate_52 ?_
          refine zti (show (nF Lg19) k = nI (Lg19 k) from rfl) ?_
          refine zast (f := nF (va_cpy Lg19 (S.2.1 4) 0 4 k)) hx hb hK hP hD hS 4 0 rfl rfl (j := 4 + k) (by omega) (by decide) dX3_inflate_53 (fun H locs hP hD hS => ?_)
          rw [nF_up] at hP hD
          have hP : va_P g.1 zCL (mW g ad (va_up fi 8 (nI (S.1 8 + 1))) (va_up (va_up (va_up (va_up cn 4 (nF (va_up (va_cpy Lg19 (S.2.1 4) 0 4 k) (4 + k) (Lg19 k)))) 7 (nF (va_cpy (S.2.1 4) (S.2.1 7) 0 (44 * (S.1 8)) 44))) 9 (nF Lg19)) 10 (nF Pg19)) xl) _ := hP
          have hD : va_D (mA ad s.heap.size) (mW g ad (va_up fi 8 (nI (S.1 8 + 1))) (va_up (va_up (va_up (va_up cn 4 (nF (va_up (va_cpy Lg19 (S.2.1 4) 0 4 k) (4 + k) (Lg19 k)))) 7 (nF (va_cpy (S.2.1 4) (S.2.1 7) 0 (44 * (S.1 8)) 44))) 9 (nF Lg19)) 10 (nF Pg19)) xl) := hD
          refine lv_iinc (v := nI (k + 1)) (lv' := [(2, .int (nI (k + 1))), (0, .ref (ad 0)), (1, .int (nI ((grl (S.2.1 4) 1).length)))]) hx hb dX3_inflate_54 hl (k := 2) rfl (nI_add k 1) (by decide) rfl (fun ls hl => ?_)
          refine lv_goto (tgt := 35) hx hb dX3_inflate_57 (by decide) ?_
          rw [show va_up (va_cpy Lg19 (S.2.1 4) 0 4 k) (4 + k) (Lg19 k) = va_cpy Lg19 (S.2.1 4) 0 4 (k + 1) by have h9 := zcpy_s Lg19 (S.2.1 4) 0 4 k; rw [Nat.zero_add] at h9; exact h9] at hP hD
          exact ih_35 (by omega) _ _ _ _ _ ⟨rfl, rfl, hP, hD, hS, lv_sub hl [1, 2, 0] rfl⟩
      · rw [mW_up (cn := va_up (va_up (va_up cn 7 (nF (va_cpy (S.2.1 4) (S.2.1 7) 0 (44 * (S.1 8)) 44))) 9 (nF Lg19)) 10 (nF Pg19)) (k := 4) (f := nF (va_cpy Lg19 (S.2.1 4) 0 4 0)) (by rw [zcpy_0]; exact hc4)] at hP
        rw [mW_up (cn := va_up (va_up (va_up cn 7 (nF (va_cpy (S.2.1 4) (S.2.1 7) 0 (44 * (S.1 8)) 44))) 9 (nF Lg19)) 10 (nF Pg19)) (k := 4) (f := nF (va_cpy Lg19 (S.2.1 4) 0 4 0)) (by rw [zcpy_0]; exact hc4)] at hD
        have hP : va_P g.1 zCL (mW g ad (va_up fi 8 (nI (S.1 8 + 1))) (va_up (va_up (va_up (va_up cn 4 (nF (va_cpy Lg19 (S.2.1 4) 0 4 0))) 7 (nF (va_cpy (S.2.1 4) (S.2.1 7) 0 (44 * (S.1 8)) 44))) 9 (nF Lg19)) 10 (nF Pg19)) xl) _ := hP
        have hD : va_D (mA ad s.heap.size) (mW g ad (va_up fi 8 (nI (S.1 8 + 1))) (va_up (va_up (va_up (va_up cn 4 (nF (va_cpy Lg19 (S.2.1 4) 0 4 0))) 7 (nF (va_cpy (S.2.1 4) (S.2.1 7) 0 (44 * (S.1 8)) 44))) 9 (nF Lg19)) 10 (nF Pg19)) xl) := hD
        exact ⟨rfl, rfl, hP, hD, hS, lv_sub hl [2, 1, 0] rfl⟩
    · refine lv_ldc hx hb hown (hts _ q1424) dX3_inflate_26 ?_
      exact W.iret (v := -1000003) hx hb hr (fun t ht hW => ⟨⟨-1000003, (fi, va_up (va_up cn 9 (nF Lg19)) 10 (nF Pg19), xl), rfl, (by unfold opInflate; rw [zif_t c_4, zif_f c_23]; exact ⟨rfl, ⟨hf0, hf8, hf12, hf19, hf29, hc1, hc2, hc3, hc4, hc7, hc11, hc26, hc27, hc28⟩, ⟨_, _, _, _, _, _, _, _, _, hc5, hc6, rfl, rfl, hc24, hc25, hc21, hc22, hf23⟩⟩), by rw [ht]; exact hP, hD⟩, hS.F ht⟩) hS.2.2 dX3_inflate_28
  · refine lv_ldc hx hb hown (hts _ q1475) dX3_inflate_7 ?_
    exact W.iret (v := -1000002) hx hb hr (fun t ht hW => ⟨⟨-1000002, (fi, cn, xl), rfl, (by unfold opInflate; rw [zif_f c_4]; exact ⟨rfl, ⟨hf0, hf8, hf12, hf19, hf29, hc1, hc2, hc3, hc4, hc7, hc11, hc26, hc27, hc28⟩, ⟨_, _, _, _, _, _, _, _, _, hc5, hc6, hc9, hc10, hc24, hc25, hc21, hc22, hf23⟩⟩), by rw [ht]; exact hP, hD⟩, hS.F ht⟩) hS.2.2 dX3_inflate_9

set_option maxHeartbeats 4000000 in
set_option maxRecDepth 100000 in
theorem m_X3_grown (l : Launch) (g : zG) (ad : Nat → Nat) (fi : Nat → Int32) (cn : Nat → Nat → Int32) (xl : Nat → Nat → Int64) (sz : Nat) (S : zS) (hM : MR S fi cn) (hX : MX fi cn xl) (hI : SI S) (n2 i2 : Int32) : Met l yX3_grown (ws_ yX3_grown cX3_grown 4 (some .int)) ({ frames := 4, cells := 0, slots := 0, locals := 95 }) (zPc g [.ref (ad 0), .int n2, .int i2] (mH g ad fi cn xl sz)) (va_Qi (fun (r9 : Int32) u => r9 = (opGrown S n2 i2 ).1 ∧ MR (opGrown S n2 i2 ).2 u.1 u.2.1 ∧ MX u.1 u.2.1 u.2.2) (mB g ad sz) (mA ad sz)) 0 0 (mA ad sz) := by
  refine Met.ofW (cc := cX3_grown) (maxL := 4) (ret := (some .int)) (by decide) rfl ?_
  intro p e s m args below meth c s₁ B0 hml hv
  obtain ⟨rfl, ⟨hK, hN⟩, hsz, hP, hD⟩ := hv
  have hx := B0.exec
  have hb := B0.bytes
  have hr := B0.returns
  have hts := atoms_spec (ws := ws_ yX3_grown cX3_grown 4 (some .int)) B0.pre
  have hts : ∀ w ∈ lw_all, w.before _ s = true := fun w h => hts w (List.mem_cons_of_mem _ h)
  have hown : s.vm.findClass RX3 = some m.cls := findClass_of_methodNamed B0.named
  have hlocks := B0.notSynchronized
  subst hsz
  have hD := mD_self s.heap.size hD
  have hS : va_S (mA ad s.heap.size) s.heap s.heap [] := va_S.rf
  have hl := lv_entry ([.ref (ad 0), .int n2, .int i2]) (n := 4) (Nat.le_of_ble_eq_true rfl)
  rw [lg_entry_eq]
  generalize (lg_sl ([.ref (ad 0), .int n2, .int i2]) ++ List.replicate (4 - (lg_sl ([.ref (ad 0), .int n2, .int i2])).length) Slot.unset).toArray = ls at hl ⊢
  have hl : lv_has ls 4 [(0, .ref (ad 0)), (1, .int n2), (2, .int i2)] := hl
  obtain ⟨hf0, hf8, hf12, hf19, hf29, hc1, hc2, hc3, hc4, hc7, hc11, hc26, hc27, hc28⟩ := hM
  obtain ⟨F5, F6, F9, F10, F24, E25, N21, N22, b23, hc5, hc6, hc9, hc10, hc24, hc25, hc21, hc22, hf23⟩ := hX
  have hB : bOK (S.2.1 4) := hI.1
  have h0 : S.2.1 4 0 ≤ 4 := hB.n4
  have h3 : S.2.1 4 3 ≤ 8 := hB.r8
  have hac := hI.2.2.1
  have hta := hI.2.2.2.1
  have hmn := hI.2.2.2.2.2.2.1
  have htn := hI.2.2.2.2.2.1
  refine lv_aload_n hx hb dX3_grown_0 rfl (lv_at hl 0 rfl) ?_
  have hQ_1 : va_P g.1 zCL [(ad 0, .inr (3, mO ad fi)), (ad 4, .inl (g.2 0, 44, .inl (cn 4)))] _ := hP.sub [0, 4] rfl
  rw [show _ = _ from hc4] at hQ_1
  refine vp_callSi (W.runV (As := []) (rest := []) ⟨hx, hb, hml, hown, hts⟩ (m_X3_isThere l g ad fi (S.2.1 4) hB  ) (cwV 0 hts (lw_V q1517 q1519 qs43 q69 q1520) rfl rfl rfl hdV_X3_isThere ⟨Nat.le_of_ble_eq_true rfl, Nat.le_of_ble_eq_true rfl⟩) (zpreV hK hN (va_recv hK hP (ci := 3) (q0 := 0) rfl rfl) hQ_1) rfl rfl hl.1 rfl (lv_room (Nat.le_of_ble_eq_true rfl)) dX3_grown_1 ⟨Nat.le_of_ble_eq_true rfl, Nat.le_of_ble_eq_true rfl⟩) (fun r_1 hr_1 => ?_)
  subst hr_1
  refine zi_neB (tgt := 10) hx hb dX3_grown_4 (by decide) (fun c_4 => ?_) (fun c_4 => ?_)
  · refine lv_iload_n hx hb dX3_grown_10 rfl (lv_at hl 1 rfl) ?_
    refine lv_i2l hx hb dX3_grown_11 rfl ?_
    refine lv_lconst (v := lN 0) hx hb dX3_grown_12 (by decide) ?_
    refine lv_ldc2 hx hb hown (hts _ q1561) dX3_grown_13 ?_
    refine ztl (show (6 : Int64) = lN 6 from rfl) ?_
    refine vp_callSi (W.runS (As := [.long n2.toInt64, .long (lN 0), .long (lN 6)]) (rest := []) ⟨hx, hb, hml, hown, hts⟩ (m_X3_in l g n2.toInt64 (lN 0) (lN 6)) (va_cwS 3 hts (lw_S q1397 q1398 q69 q1399) rfl rfl rfl hdS_X3_in ⟨Nat.le_of_ble_eq_true rfl, Nat.le_of_ble_eq_true rfl⟩) (zpreS hK hN trivial) rfl rfl hl.1 rfl (lv_room (Nat.le_of_ble_eq_true rfl)) dX3_grown_16 ⟨Nat.le_of_ble_eq_true rfl, Nat.le_of_ble_eq_true rfl⟩) (fun r_16 hr_16 => ?_)
    subst hr_16
    refine zti (show _ = zB (zIn n2 0 6) from zB_c (zIn_l n2 (by omega) (by omega))) ?_
    refine zi_eqB (tgt := 27) hx hb dX3_grown_19 (by decide) (fun c_19 => ?_) (fun c_19 => ?_)
    · refine lv_ldc hx hb hown (hts _ q1401) dX3_grown_27 ?_
      exact W.iret (v := -1000001) hx hb hr (fun t ht hW => ⟨⟨-1000001, (fi, cn, xl), rfl, (by unfold opGrown; rw [zif_t c_4, zif_f c_19]; exact ⟨rfl, ⟨hf0, hf8, hf12, hf19, hf29, hc1, hc2, hc3, hc4, hc7, hc11, hc26, hc27, hc28⟩, ⟨_, _, _, _, _, _, _, _, _, hc5, hc6, hc9, hc10, hc24, hc25, hc21, hc22, hf23⟩⟩), by rw [ht]; exact hP, hD⟩, hS.F ht⟩) hS.2.2 dX3_grown_29
    · refine lv_iload_n hx hb dX3_grown_22 rfl (lv_at hl 2 rfl) ?_
      refine lv_iconst (v := -1) hx hb dX3_grown_23 (by decide) ?_
      refine lv_icmp_ge (tgt := 30) hx hb dX3_grown_24 (by decide) (fun c_24 => ?_) (fun c_24 => ?_)
      · obtain ⟨n, rfl, hu_n, hv_n⟩ := zIn_ex c_19 (by omega)
        refine lv_aload_n hx hb dX3_grown_30 rfl (lv_at hl 0 rfl) ?_
        refine lv_aload_n hx hb dX3_grown_31 rfl (lv_at hl 0 rfl) ?_
        refine va_get (D := g.1) (ci := 3) (v := .ref (ad 4)) (C := RX3) (T := TX3) (N := 30) hx hb hts in_X3 hown hK hP 0 rfl rfl 4 (by decide) (hts _ q1301) (fun _ h9 => h9) rfl dX3_grown_32 ?_
        refine lv_iload_n hx hb dX3_grown_35 rfl (lv_at hl 1 rfl) ?_
        have hle_36 := hS.1
        refine va_calli (va_runV (As := [.ref (ad 4), .int (nI n)]) (rest := []) ⟨hx, hb, hml, hown, hts⟩ (m_X3_layGrown_4 l g ad fi cn xl _ (S.2.1 4) F9 F10 hc4 hc9 hc10 hB n (by omega)) (cwV 2 hts (lw_V q1531 q1533 qs44 q69 q1534) rfl rfl rfl hdV_X3_layGrown ⟨Nat.le_of_ble_eq_true rfl, Nat.le_of_ble_eq_true rfl⟩) (zpreV hK hN (va_recv hK hP (ci := 3) (q0 := 0) rfl rfl) ⟨rfl, hP, hD.weaken (fun _ _ _ _ => trivial)⟩) rfl rfl hl.1 rfl (lv_room (Nat.le_of_ble_eq_true rfl)) dX3_grown_36 ⟨Nat.le_of_ble_eq_true rfl, Nat.le_of_ble_eq_true rfl⟩) hS (fun q _ h => mA_le hS.1 q h) (mA_le hS.1) (fun r_36 u t H locs ht hvm hw_36 hB hzz hkk hS => ?_)
        obtain ⟨hP, hD⟩ := hB
        rw [ht] at hP
        have hD := hD.weaken (fun _ _ _ h => mA_le hle_36 _ h)
        obtain ⟨rfl, Lg39, Pg39, rfl, hG_39⟩ := hw_36
        have hP : va_P g.1 zCL (mW g ad fi (va_up (va_up cn 9 (nF Lg39)) 10 (nF Pg39)) xl) _ := hP
        have hD : va_D (mA ad s.heap.size) (mW g ad fi (va_up (va_up cn 9 (nF Lg39)) 10 (nF Pg39)) xl) := hD
        by_cases hgk : gok (S.2.1 4) n
        · refine zti (show _ = nI ((grl (S.2.1 4) n).length) from zif_t hgk) ?_
          have hLg := hG_39 hgk
          have hg3 := hgk n (Nat.le_refl _)
          have hLA := lAll_grl hB n
          refine lv_istore_n (lv' := [(3, .int (nI ((grl (S.2.1 4) n).length))), (0, .ref (ad 0)), (1, .int (nI n)), (2, .int i2)]) hx hb dX3_grown_39 rfl hl (by decide) rfl (fun ls hl => ?_)
          refine lv_iload_n hx hb dX3_grown_40 rfl (lv_at hl 0 rfl) ?_
          refine lv_ldc hx hb hown (hts _ q1424) dX3_grown_41 ?_
          refine lv_icmp_eq (tgt := 51) hx hb dX3_grown_43 (by decide) (fun c_43 => ?_) (fun c_43 => ?_)
          · exact absurd c_43 (nI_nF (by omega))
          · refine lv_iload_n hx hb dX3_grown_46 rfl (lv_at hl 3 rfl) ?_
            refine lv_iconst (v := -1) hx hb dX3_grown_47 (by decide) ?_
            refine lv_icmp_ne (tgt := 55) hx hb dX3_grown_48 (by decide) (fun c_48 => ?_) (fun c_48 => ?_)
            · obtain ⟨i, rfl, hn_i⟩ := zm1_ex c_24 c_48
              refine lv_iload_n hx hb dX3_grown_55 rfl (lv_at hl 3 rfl) ?_
              refine lv_iload_n hx hb dX3_grown_56 rfl (lv_at hl 0 rfl) ?_
              refine zc_ge (tgt := 69) hx hb (by omega) (by omega) dX3_grown_57 (by decide) (fun c_57 => ?_) (fun c_57 => ?_)
              · refine lv_ldc hx hb hown (hts _ q1433) dX3_grown_69 ?_
                exact W.iret (v := -1000000) hx hb hr (fun t ht hW => ⟨⟨-1000000, (fi, va_up (va_up cn 9 (nF Lg39)) 10 (nF Pg39), xl), rfl, (by unfold opGrown; (try rw [zn_nI (n := n) (by omega)]); (try rw [zn_nI (n := i) (by omega)]); rw [zif_t c_4, zif_t c_19, zif_t c_24, zif_t hgk, zif_f c_48, zif_t c_57]; exact ⟨rfl, ⟨hf0, hf8, hf12, hf19, hf29, hc1, hc2, hc3, hc4, hc7, hc11, hc26, hc27, hc28⟩, ⟨_, _, _, _, _, _, _, _, _, hc5, hc6, rfl, rfl, hc24, hc25, hc21, hc22, hf23⟩⟩), by rw [ht]; exact hP, hD⟩, hS.F ht⟩) hS.2.2 dX3_grown_71
              · refine lv_aload_n hx hb dX3_grown_60 rfl (lv_at hl 1 rfl) ?_
                refine va_get (D := g.1) (ci := 3) (v := .ref (ad 9)) (C := RX3) (T := TX3) (N := 30) hx hb hts in_X3 hown hK hP 0 rfl rfl 9 (by decide) (hts _ q1306) (fun _ h9 => h9) rfl dX3_grown_61 ?_
                refine lv_iload_n hx hb dX3_grown_64 rfl (lv_at hl 3 rfl) ?_
                refine zald hx hb hK hP 8 0 rfl rfl (j := i) (by omega) (by decide) dX3_grown_65 ?_
                refine zti (show (nF Lg39) i = nI (Lg39 i) from rfl) ?_
                refine zti (show _ = nI ((grl (S.2.1 4) n).getD i 0) from congrArg nI (hLg i (by omega))) ?_
                refine lv_goto (tgt := 71) hx hb dX3_grown_66 (by decide) ?_
                exact W.iret (v := nI ((grl (S.2.1 4) n).getD i 0)) hx hb hr (fun t ht hW => ⟨⟨nI ((grl (S.2.1 4) n).getD i 0), (fi, va_up (va_up cn 9 (nF Lg39)) 10 (nF Pg39), xl), rfl, (by unfold opGrown; (try rw [zn_nI (n := n) (by omega)]); (try rw [zn_nI (n := i) (by omega)]); rw [zif_t c_4, zif_t c_19, zif_t c_24, zif_t hgk, zif_f c_48, zif_f c_57]; exact ⟨rfl, ⟨hf0, hf8, hf12, hf19, hf29, hc1, hc2, hc3, hc4, hc7, hc11, hc26, hc27, hc28⟩, ⟨_, _, _, _, _, _, _, _, _, hc5, hc6, rfl, rfl, hc24, hc25, hc21, hc22, hf23⟩⟩), by rw [ht]; exact hP, hD⟩, hS.F ht⟩) hS.2.2 dX3_grown_71
            · refine lv_iload_n hx hb dX3_grown_51 rfl (lv_at hl 0 rfl) ?_
              refine lv_goto (tgt := 71) hx hb dX3_grown_52 (by decide) ?_
              exact W.iret (v := nI ((grl (S.2.1 4) n).length)) hx hb hr (fun t ht hW => ⟨⟨nI ((grl (S.2.1 4) n).length), (fi, va_up (va_up cn 9 (nF Lg39)) 10 (nF Pg39), xl), rfl, (by unfold opGrown; (try rw [zn_nI (n := n) (by omega)]); rw [zif_t c_4, zif_t c_19, zif_t c_24, zif_t hgk, zif_t c_48]; exact ⟨rfl, ⟨hf0, hf8, hf12, hf19, hf29, hc1, hc2, hc3, hc4, hc7, hc11, hc26, hc27, hc28⟩, ⟨_, _, _, _, _, _, _, _, _, hc5, hc6, rfl, rfl, hc24, hc25, hc21, hc22, hf23⟩⟩), by rw [ht]; exact hP, hD⟩, hS.F ht⟩) hS.2.2 dX3_grown_71
        · refine zti (show _ = -1000003 from zif_f hgk) ?_
          refine lv_istore_n (lv' := [(3, .int (-1000003)), (0, .ref (ad 0)), (1, .int (nI n)), (2, .int i2)]) hx hb dX3_grown_39 rfl hl (by decide) rfl (fun ls hl => ?_)
          refine lv_iload_n hx hb dX3_grown_40 rfl (lv_at hl 0 rfl) ?_
          refine lv_ldc hx hb hown (hts _ q1424) dX3_grown_41 ?_
          refine lv_icmp_eq (tgt := 51) hx hb dX3_grown_43 (by decide) (fun c_43 => ?_) (fun c_43 => ?_)
          · refine lv_iload_n hx hb dX3_grown_51 rfl (lv_at hl 0 rfl) ?_
            refine lv_goto (tgt := 71) hx hb dX3_grown_52 (by decide) ?_
            exact W.iret (v := -1000003) hx hb hr (fun t ht hW => ⟨⟨-1000003, (fi, va_up (va_up cn 9 (nF Lg39)) 10 (nF Pg39), xl), rfl, (by unfold opGrown; (try rw [zn_nI (n := n) (by omega)]); rw [zif_t c_4, zif_t c_19, zif_t c_24, zif_f hgk]; exact ⟨rfl, ⟨hf0, hf8, hf12, hf19, hf29, hc1, hc2, hc3, hc4, hc7, hc11, hc26, hc27, hc28⟩, ⟨_, _, _, _, _, _, _, _, _, hc5, hc6, rfl, rfl, hc24, hc25, hc21, hc22, hf23⟩⟩), by rw [ht]; exact hP, hD⟩, hS.F ht⟩) hS.2.2 dX3_grown_71
          · exact absurd rfl c_43
      · refine lv_ldc hx hb hown (hts _ q1401) dX3_grown_27 ?_
        exact W.iret (v := -1000001) hx hb hr (fun t ht hW => ⟨⟨-1000001, (fi, cn, xl), rfl, (by unfold opGrown; rw [zif_t c_4, zif_t c_19, zif_f c_24]; exact ⟨rfl, ⟨hf0, hf8, hf12, hf19, hf29, hc1, hc2, hc3, hc4, hc7, hc11, hc26, hc27, hc28⟩, ⟨_, _, _, _, _, _, _, _, _, hc5, hc6, hc9, hc10, hc24, hc25, hc21, hc22, hf23⟩⟩), by rw [ht]; exact hP, hD⟩, hS.F ht⟩) hS.2.2 dX3_grown_29
  · refine lv_ldc hx hb hown (hts _ q1475) dX3_grown_7 ?_
    exact W.iret (v := -1000002) hx hb hr (fun t ht hW => ⟨⟨-1000002, (fi, cn, xl), rfl, (by unfold opGrown; rw [zif_f c_4]; exact ⟨rfl, ⟨hf0, hf8, hf12, hf19, hf29, hc1, hc2, hc3, hc4, hc7, hc11, hc26, hc27, hc28⟩, ⟨_, _, _, _, _, _, _, _, _, hc5, hc6, hc9, hc10, hc24, hc25, hc21, hc22, hf23⟩⟩), by rw [ht]; exact hP, hD⟩, hS.F ht⟩) hS.2.2 dX3_grown_9

set_option maxHeartbeats 4000000 in
set_option maxRecDepth 100000 in
theorem m_X3_place (l : Launch) (g : zG) (ad : Nat → Nat) (fi : Nat → Int32) (cn : Nat → Nat → Int32) (xl : Nat → Nat → Int64) (sz : Nat) (S : zS) (hM : MR S fi cn) (hX : MX fi cn xl) (hI : SI S) (n2 i2 w2 : Int32) : Met l yX3_place (ws_ yX3_place cX3_place 8 (some .long)) ({ frames := 4, cells := 0, slots := 0, locals := 95 }) (zPc g [.ref (ad 0), .int n2, .int i2, .int w2] (mH g ad fi cn xl sz)) (va_Ql (fun (r9 : Int64) u => r9 = (opPlace S n2 i2 w2 ).1 ∧ MR (opPlace S n2 i2 w2 ).2 u.1 u.2.1 ∧ MX u.1 u.2.1 u.2.2) (mB g ad sz) (mA ad sz)) 0 0 (mA ad sz) := by
  refine Met.ofW (cc := cX3_place) (maxL := 8) (ret := (some .long)) (by decide) rfl ?_
  intro p e s m args below meth c s₁ B0 hml hv
  obtain ⟨rfl, ⟨hK, hN⟩, hsz, hP, hD⟩ := hv
  have hx := B0.exec
  have hb := B0.bytes
  have hr := B0.returns
  have hts := atoms_spec (ws := ws_ yX3_place cX3_place 8 (some .long)) B0.pre
  have hts : ∀ w ∈ lw_all, w.before _ s = true := fun w h => hts w (List.mem_cons_of_mem _ h)
  have hown : s.vm.findClass RX3 = some m.cls := findClass_of_methodNamed B0.named
  have hlocks := B0.notSynchronized
  subst hsz
  have hD := mD_self s.heap.size hD
  have hS : va_S (mA ad s.heap.size) s.heap s.heap [] := va_S.rf
  have hl := lv_entry ([.ref (ad 0), .int n2, .int i2, .int w2]) (n := 8) (Nat.le_of_ble_eq_true rfl)
  rw [lg_entry_eq]
  generalize (lg_sl ([.ref (ad 0), .int n2, .int i2, .int w2]) ++ List.replicate (8 - (lg_sl ([.ref (ad 0), .int n2, .int i2, .int w2])).length) Slot.unset).toArray = ls at hl ⊢
  have hl : lv_has ls 8 [(0, .ref (ad 0)), (1, .int n2), (2, .int i2), (3, .int w2)] := hl
  obtain ⟨hf0, hf8, hf12, hf19, hf29, hc1, hc2, hc3, hc4, hc7, hc11, hc26, hc27, hc28⟩ := hM
  obtain ⟨F5, F6, F9, F10, F24, E25, N21, N22, b23, hc5, hc6, hc9, hc10, hc24, hc25, hc21, hc22, hf23⟩ := hX
  have hB : bOK (S.2.1 4) := hI.1
  have h0 : S.2.1 4 0 ≤ 4 := hB.n4
  have h3 : S.2.1 4 3 ≤ 8 := hB.r8
  have hac := hI.2.2.1
  have hta := hI.2.2.2.1
  have hmn := hI.2.2.2.2.2.2.1
  have htn := hI.2.2.2.2.2.1
  refine lv_aload_n hx hb dX3_place_0 rfl (lv_at hl 0 rfl) ?_
  have hQ_1 : va_P g.1 zCL [(ad 0, .inr (3, mO ad fi)), (ad 4, .inl (g.2 0, 44, .inl (cn 4)))] _ := hP.sub [0, 4] rfl
  rw [show _ = _ from hc4] at hQ_1
  refine vp_callSi (W.runV (As := []) (rest := []) ⟨hx, hb, hml, hown, hts⟩ (m_X3_isThere l g ad fi (S.2.1 4) hB  ) (cwV 0 hts (lw_V q1517 q1519 qs43 q69 q1520) rfl rfl rfl hdV_X3_isThere ⟨Nat.le_of_ble_eq_true rfl, Nat.le_of_ble_eq_true rfl⟩) (zpreV hK hN (va_recv hK hP (ci := 3) (q0 := 0) rfl rfl) hQ_1) rfl rfl hl.1 rfl (lv_room (Nat.le_of_ble_eq_true rfl)) dX3_place_1 ⟨Nat.le_of_ble_eq_true rfl, Nat.le_of_ble_eq_true rfl⟩) (fun r_1 hr_1 => ?_)
  subst hr_1
  refine zi_neB (tgt := 11) hx hb dX3_place_4 (by decide) (fun c_4 => ?_) (fun c_4 => ?_)
  · refine lv_iload_n hx hb dX3_place_11 rfl (lv_at hl 1 rfl) ?_
    refine lv_i2l hx hb dX3_place_12 rfl ?_
    refine lv_lconst (v := lN 0) hx hb dX3_place_13 (by decide) ?_
    refine lv_ldc2 hx hb hown (hts _ q1561) dX3_place_14 ?_
    refine ztl (show (6 : Int64) = lN 6 from rfl) ?_
    refine vp_callSi (W.runS (As := [.long n2.toInt64, .long (lN 0), .long (lN 6)]) (rest := []) ⟨hx, hb, hml, hown, hts⟩ (m_X3_in l g n2.toInt64 (lN 0) (lN 6)) (va_cwS 3 hts (lw_S q1397 q1398 q69 q1399) rfl rfl rfl hdS_X3_in ⟨Nat.le_of_ble_eq_true rfl, Nat.le_of_ble_eq_true rfl⟩) (zpreS hK hN trivial) rfl rfl hl.1 rfl (lv_room (Nat.le_of_ble_eq_true rfl)) dX3_place_17 ⟨Nat.le_of_ble_eq_true rfl, Nat.le_of_ble_eq_true rfl⟩) (fun r_17 hr_17 => ?_)
    subst hr_17
    refine zti (show _ = zB (zIn n2 0 6) from zB_c (zIn_l n2 (by omega) (by omega))) ?_
    refine zi_eqB (tgt := 37) hx hb dX3_place_20 (by decide) (fun c_20 => ?_) (fun c_20 => ?_)
    · refine lv_ldc2 hx hb hown (hts _ q1571) dX3_place_37 ?_
      exact W.lret (v := -1000001) hx hb hr (fun t ht hW => ⟨⟨-1000001, (fi, cn, xl), rfl, (by unfold opPlace; rw [zif_t c_4, zif_f c_20]; exact ⟨rfl, ⟨hf0, hf8, hf12, hf19, hf29, hc1, hc2, hc3, hc4, hc7, hc11, hc26, hc27, hc28⟩, ⟨_, _, _, _, _, _, _, _, _, hc5, hc6, hc9, hc10, hc24, hc25, hc21, hc22, hf23⟩⟩), by rw [ht]; exact hP, hD⟩, hS.F ht⟩) hS.2.2 dX3_place_40
    · refine lv_iload_n hx hb dX3_place_23 rfl (lv_at hl 2 rfl) ?_
      refine lv_if_lt (tgt := 37) hx hb dX3_place_24 (by decide) (fun c_24 => ?_) (fun c_24 => ?_)
      · refine lv_ldc2 hx hb hown (hts _ q1571) dX3_place_37 ?_
        exact W.lret (v := -1000001) hx hb hr (fun t ht hW => ⟨⟨-1000001, (fi, cn, xl), rfl, (by unfold opPlace; rw [zif_t c_4, zif_t c_20, zif_t c_24]; exact ⟨rfl, ⟨hf0, hf8, hf12, hf19, hf29, hc1, hc2, hc3, hc4, hc7, hc11, hc26, hc27, hc28⟩, ⟨_, _, _, _, _, _, _, _, _, hc5, hc6, hc9, hc10, hc24, hc25, hc21, hc22, hf23⟩⟩), by rw [ht]; exact hP, hD⟩, hS.F ht⟩) hS.2.2 dX3_place_40
      · obtain ⟨i, rfl, hn_i⟩ := znlt_ex c_24
        refine lv_iload_n hx hb dX3_place_27 rfl (lv_at hl 3 rfl) ?_
        refine lv_i2l hx hb dX3_place_28 rfl ?_
        refine lv_lconst (v := lN 0) hx hb dX3_place_29 (by decide) ?_
        refine lv_lconst (v := lN 1) hx hb dX3_place_30 (by decide) ?_
        refine vp_callSi (W.runS (As := [.long w2.toInt64, .long (lN 0), .long (lN 1)]) (rest := []) ⟨hx, hb, hml, hown, hts⟩ (m_X3_in l g w2.toInt64 (lN 0) (lN 1)) (va_cwS 3 hts (lw_S q1397 q1398 q69 q1399) rfl rfl rfl hdS_X3_in ⟨Nat.le_of_ble_eq_true rfl, Nat.le_of_ble_eq_true rfl⟩) (zpreS hK hN trivial) rfl rfl hl.1 rfl (lv_room (Nat.le_of_ble_eq_true rfl)) dX3_place_31 ⟨Nat.le_of_ble_eq_true rfl, Nat.le_of_ble_eq_true rfl⟩) (fun r_31 hr_31 => ?_)
        subst hr_31
        refine zti (show _ = zB (zIn w2 0 1) from zB_c (zIn_l w2 (by omega) (by omega))) ?_
        refine zi_neB (tgt := 41) hx hb dX3_place_34 (by decide) (fun c_34 => ?_) (fun c_34 => ?_)
        · obtain ⟨n, rfl, hu_n, hv_n⟩ := zIn_ex c_20 (by omega)
          obtain ⟨w, rfl, hu_w, hv_w⟩ := zIn_ex c_34 (by omega)
          refine lv_aload_n hx hb dX3_place_41 rfl (lv_at hl 0 rfl) ?_
          refine lv_aload_n hx hb dX3_place_42 rfl (lv_at hl 0 rfl) ?_
          refine va_get (D := g.1) (ci := 3) (v := .ref (ad 4)) (C := RX3) (T := TX3) (N := 30) hx hb hts in_X3 hown hK hP 0 rfl rfl 4 (by decide) (hts _ q1301) (fun _ h9 => h9) rfl dX3_place_43 ?_
          refine lv_iload_n hx hb dX3_place_46 rfl (lv_at hl 1 rfl) ?_
          have hle_47 := hS.1
          refine va_calli (va_runV (As := [.ref (ad 4), .int (nI n)]) (rest := []) ⟨hx, hb, hml, hown, hts⟩ (m_X3_layGrown_4 l g ad fi cn xl _ (S.2.1 4) F9 F10 hc4 hc9 hc10 hB n (by omega)) (cwV 2 hts (lw_V q1531 q1533 qs44 q69 q1534) rfl rfl rfl hdV_X3_layGrown ⟨Nat.le_of_ble_eq_true rfl, Nat.le_of_ble_eq_true rfl⟩) (zpreV hK hN (va_recv hK hP (ci := 3) (q0 := 0) rfl rfl) ⟨rfl, hP, hD.weaken (fun _ _ _ _ => trivial)⟩) rfl rfl hl.1 rfl (lv_room (Nat.le_of_ble_eq_true rfl)) dX3_place_47 ⟨Nat.le_of_ble_eq_true rfl, Nat.le_of_ble_eq_true rfl⟩) hS (fun q _ h => mA_le hS.1 q h) (mA_le hS.1) (fun r_47 u t H locs ht hvm hw_47 hB hzz hkk hS => ?_)
          obtain ⟨hP, hD⟩ := hB
          rw [ht] at hP
          have hD := hD.weaken (fun _ _ _ h => mA_le hle_47 _ h)
          obtain ⟨rfl, Lg50, Pg50, rfl, hG_50⟩ := hw_47
          have hP : va_P g.1 zCL (mW g ad fi (va_up (va_up cn 9 (nF Lg50)) 10 (nF Pg50)) xl) _ := hP
          have hD : va_D (mA ad s.heap.size) (mW g ad fi (va_up (va_up cn 9 (nF Lg50)) 10 (nF Pg50)) xl) := hD
          by_cases hgk : gok (S.2.1 4) n
          · refine zti (show _ = nI ((grl (S.2.1 4) n).length) from zif_t hgk) ?_
            have hLg := hG_50 hgk
            have hg3 := hgk n (Nat.le_refl _)
            have hLA := lAll_grl hB n
            refine lv_istore (lv' := [(4, .int (nI ((grl (S.2.1 4) n).length))), (0, .ref (ad 0)), (1, .int (nI n)), (2, .int (nI i)), (3, .int (nI w))]) hx hb dX3_place_50 hl (by decide) rfl (fun ls hl => ?_)
            refine lv_iload hx hb dX3_place_52 (lv_at hl 0 rfl) ?_
            refine lv_ldc hx hb hown (hts _ q1424) dX3_place_54 ?_
            refine lv_icmp_eq (tgt := 65) hx hb dX3_place_56 (by decide) (fun c_56 => ?_) (fun c_56 => ?_)
            · exact absurd c_56 (nI_nF (by omega))
            · refine lv_iload_n hx hb dX3_place_59 rfl (lv_at hl 3 rfl) ?_
              refine lv_iload hx hb dX3_place_60 (lv_at hl 0 rfl) ?_
              refine zc_lt (tgt := 82) hx hb (by omega) (by omega) dX3_place_62 (by decide) (fun c_62 => ?_) (fun c_62 => ?_)
              · refine lv_lconst (v := lN 0) hx hb dX3_place_82 (by decide) ?_
                refine lv_lstore (lv' := [(5, .long (lN 0)), (4, .int (nI ((grl (S.2.1 4) n).length))), (0, .ref (ad 0)), (1, .int (nI n)), (2, .int (nI i)), (3, .int (nI w))]) hx hb dX3_place_83 hl (by decide) rfl (fun ls hl => ?_)
                refine lv_iconst (v := nI 0) hx hb dX3_place_85 (by decide) ?_
                refine lv_istore (lv' := [(7, .int (nI 0)), (5, .long (lN 0)), (4, .int (nI ((grl (S.2.1 4) n).length))), (0, .ref (ad 0)), (1, .int (nI n)), (2, .int (nI i)), (3, .int (nI w))]) hx hb dX3_place_86 hl (by decide) rfl (fun ls hl => ?_)
                refine zloop (head := 88) (nL := 8) (i) (fun k => [(0, .ref (ad 0)), (1, .int (nI n)), (2, .int (nI i)), (3, .int (nI w)), (4, .int (nI ((grl (S.2.1 4) n).length))), (5, .long (lN (zsum (fun q => bln (S.2.1 4) ((grl (S.2.1 4) n).getD q 0) w) k))), (7, .int (nI k))]) (fun k hv_k ih_88 ls hl => ?_) 0 (Nat.zero_le _) (lv_sub hl [3, 4, 5, 6, 2, 1, 0] rfl)
                refine lv_iload hx hb dX3_place_88 (lv_at hl 6 rfl) ?_
                refine lv_iload_n hx hb dX3_place_90 rfl (lv_at hl 2 rfl) ?_
                refine zc_ge (tgt := 121) hx hb (by omega) (by omega) dX3_place_91 (by decide) (fun c_91 => ?_) (fun c_91 => ?_)
                · obtain rfl : i = k := by omega
                  refine lv_lload hx hb dX3_place_121 (lv_at hl 5 rfl) ?_
                  exact W.lret (v := lN (zsum (fun q => bln (S.2.1 4) ((grl (S.2.1 4) n).getD q 0) w) i)) hx hb hr (fun t ht hW => ⟨⟨lN (zsum (fun q => bln (S.2.1 4) ((grl (S.2.1 4) n).getD q 0) w) i), (fi, va_up (va_up cn 9 (nF Lg50)) 10 (nF Pg50), xl), rfl, (by unfold opPlace; (try rw [zn_nI (n := i) (by omega)]); (try rw [zn_nI (n := n) (by omega)]); (try rw [zn_nI (n := w) (by omega)]); rw [zif_t c_4, zif_t c_20, zif_f c_24, zif_t c_34, zif_t hgk, zif_t c_62]; exact ⟨rfl, ⟨hf0, hf8, hf12, hf19, hf29, hc1, hc2, hc3, hc4, hc7, hc11, hc26, hc27, hc28⟩, ⟨_, _, _, _, _, _, _, _, _, hc5, hc6, rfl, rfl, hc24, hc25, hc21, hc22, hf23⟩⟩), by rw [ht]; exact hP, hD⟩, hS.F ht⟩) hS.2.2 dX3_place_123
                · have hk9 : k < (grl (S.2.1 4) n).length := by omega
                  have hLk := hLg.lt hLA hk9
                  have hLkk := (hB.kd hLk).2
                  have hll := hB.ln hLk (w := w) (by omega)
                  refine lv_lload hx hb dX3_place_94 (lv_at hl 5 rfl) ?_
                  refine lv_aload_n hx hb dX3_place_96 rfl (lv_at hl 0 rfl) ?_
                  refine va_get (D := g.1) (ci := 3) (v := .ref (ad 4)) (C := RX3) (T := TX3) (N := 30) hx hb hts in_X3 hown hK hP 0 rfl rfl 4 (by decide) (hts _ q1301) (fun _ h9 => h9) rfl dX3_place_97 ?_
                  refine lv_aload_n hx hb dX3_place_100 rfl (lv_at hl 0 rfl) ?_
                  refine va_get (D := g.1) (ci := 3) (v := .ref (ad 9)) (C := RX3) (T := TX3) (N := 30) hx hb hts in_X3 hown hK hP 0 rfl rfl 9 (by decide) (hts _ q1306) (fun _ h9 => h9) rfl dX3_place_101 ?_
                  refine lv_iload hx hb dX3_place_104 (lv_at hl 6 rfl) ?_
                  refine zald hx hb hK hP 8 0 rfl rfl (j := k) (by omega) (by decide) dX3_place_106 ?_
                  refine zti (show (nF Lg50) k = nI (Lg50 k) from rfl) ?_
                  refine lv_iload_n hx hb dX3_place_107 rfl (lv_at hl 3 rfl) ?_
                  have hQ_108 : va_P g.1 zCL [(ad 4, .inl (g.2 0, 44, .inl (cn 4)))] _ := hP.sub [4] rfl
                  rw [show _ = _ from hc4] at hQ_108
                  refine vp_callSi (W.runS (As := [.ref (ad 4), .int (nI (Lg50 k)), .int (nI w)]) (rest := [.long (lN (zsum (fun q => bln (S.2.1 4) ((grl (S.2.1 4) n).getD q 0) w) k))]) ⟨hx, hb, hml, hown, hts⟩ (m_X3_lengthOf l g (ad 4) (S.2.1 4) (Lg50 k) w (by omega) (by omega) (by first | assumption | omega | exact (hB.kd (by omega)).2)) (va_cwS 3 hts (lw_S q1574 q1575 q69 q1576) rfl rfl rfl hdS_X3_lengthOf ⟨Nat.le_of_ble_eq_true rfl, Nat.le_of_ble_eq_true rfl⟩) (zpreS hK hN hQ_108) rfl rfl hl.1 rfl (lv_room (Nat.le_of_ble_eq_true rfl)) dX3_place_108 ⟨Nat.le_of_ble_eq_true rfl, Nat.le_of_ble_eq_true rfl⟩) (fun r_108 hr_108 => ?_)
                  subst hr_108
                  refine zti (show _ = nI (bln (S.2.1 4) ((grl (S.2.1 4) n).getD k 0) w) from by rw [hLg k hk9]) ?_
                  rw [hLg k hk9] at hll
                  refine lv_i2l (v := lN (bln (S.2.1 4) ((grl (S.2.1 4) n).getD k 0) w)) hx hb dX3_place_111 (nI_l (by omega)) ?_
                  refine lv_ladd hx hb dX3_place_112 ?_
                  refine ztl (lN_add (zsum (fun q => bln (S.2.1 4) ((grl (S.2.1 4) n).getD q 0) w) k) (bln (S.2.1 4) ((grl (S.2.1 4) n).getD k 0) w)) ?_
                  refine lv_lstore (lv' := [(5, .long (lN (zsum (fun q => bln (S.2.1 4) ((grl (S.2.1 4) n).getD q 0) w) k + (bln (S.2.1 4) ((grl (S.2.1 4) n).getD k 0) w)))), (0, .ref (ad 0)), (1, .int (nI n)), (2, .int (nI i)), (3, .int (nI w)), (4, .int (nI ((grl (S.2.1 4) n).length))), (7, .int (nI k))]) hx hb dX3_place_113 hl (by decide) rfl (fun ls hl => ?_)
                  refine lv_iinc (v := nI (k + 1)) (lv' := [(7, .int (nI (k + 1))), (5, .long (lN (zsum (fun q => bln (S.2.1 4) ((grl (S.2.1 4) n).getD q 0) w) k + (bln (S.2.1 4) ((grl (S.2.1 4) n).getD k 0) w)))), (0, .ref (ad 0)), (1, .int (nI n)), (2, .int (nI i)), (3, .int (nI w)), (4, .int (nI ((grl (S.2.1 4) n).length)))]) hx hb dX3_place_115 hl (k := 6) rfl (nI_add k 1) (by decide) rfl (fun ls hl => ?_)
                  refine lv_goto (tgt := 88) hx hb dX3_place_118 (by decide) ?_
                  exact ih_88 (by omega) _ (lv_sub hl [2, 3, 4, 5, 6, 1, 0] rfl)
              · refine lv_iload hx hb dX3_place_65 (lv_at hl 0 rfl) ?_
                refine lv_ldc hx hb hown (hts _ q1424) dX3_place_67 ?_
                refine lv_icmp_ne (tgt := 78) hx hb dX3_place_69 (by decide) (fun c_69 => ?_) (fun c_69 => ?_)
                · refine lv_ldc2 hx hb hown (hts _ q1573) dX3_place_78 ?_
                  exact W.lret (v := -1000000) hx hb hr (fun t ht hW => ⟨⟨-1000000, (fi, va_up (va_up cn 9 (nF Lg50)) 10 (nF Pg50), xl), rfl, (by unfold opPlace; (try rw [zn_nI (n := i) (by omega)]); (try rw [zn_nI (n := n) (by omega)]); (try rw [zn_nI (n := w) (by omega)]); rw [zif_t c_4, zif_t c_20, zif_f c_24, zif_t c_34, zif_t hgk, zif_f c_62]; exact ⟨rfl, ⟨hf0, hf8, hf12, hf19, hf29, hc1, hc2, hc3, hc4, hc7, hc11, hc26, hc27, hc28⟩, ⟨_, _, _, _, _, _, _, _, _, hc5, hc6, rfl, rfl, hc24, hc25, hc21, hc22, hf23⟩⟩), by rw [ht]; exact hP, hD⟩, hS.F ht⟩) hS.2.2 dX3_place_81
                · exact absurd c_69 (nI_nF (by omega))
          · refine zti (show _ = -1000003 from zif_f hgk) ?_
            refine lv_istore (lv' := [(4, .int (-1000003)), (0, .ref (ad 0)), (1, .int (nI n)), (2, .int (nI i)), (3, .int (nI w))]) hx hb dX3_place_50 hl (by decide) rfl (fun ls hl => ?_)
            refine lv_iload hx hb dX3_place_52 (lv_at hl 0 rfl) ?_
            refine lv_ldc hx hb hown (hts _ q1424) dX3_place_54 ?_
            refine lv_icmp_eq (tgt := 65) hx hb dX3_place_56 (by decide) (fun c_56 => ?_) (fun c_56 => ?_)
            · refine lv_iload hx hb dX3_place_65 (lv_at hl 0 rfl) ?_
              refine lv_ldc hx hb hown (hts _ q1424) dX3_place_67 ?_
              refine lv_icmp_ne (tgt := 78) hx hb dX3_place_69 (by decide) (fun c_69 => ?_) (fun c_69 => ?_)
              · exact absurd rfl c_69
              · refine lv_ldc2 hx hb hown (hts _ q1572) dX3_place_72 ?_
                refine lv_goto (tgt := 81) hx hb dX3_place_75 (by decide) ?_
                exact W.lret (v := -1000003) hx hb hr (fun t ht hW => ⟨⟨-1000003, (fi, va_up (va_up cn 9 (nF Lg50)) 10 (nF Pg50), xl), rfl, (by unfold opPlace; (try rw [zn_nI (n := i) (by omega)]); (try rw [zn_nI (n := n) (by omega)]); (try rw [zn_nI (n := w) (by omega)]); rw [zif_t c_4, zif_t c_20, zif_f c_24, zif_t c_34, zif_f hgk]; exact ⟨rfl, ⟨hf0, hf8, hf12, hf19, hf29, hc1, hc2, hc3, hc4, hc7, hc11, hc26, hc27, hc28⟩, ⟨_, _, _, _, _, _, _, _, _, hc5, hc6, rfl, rfl, hc24, hc25, hc21, hc22, hf23⟩⟩), by rw [ht]; exact hP, hD⟩, hS.F ht⟩) hS.2.2 dX3_place_81
            · exact absurd rfl c_56
        · refine lv_ldc2 hx hb hown (hts _ q1571) dX3_place_37 ?_
          exact W.lret (v := -1000001) hx hb hr (fun t ht hW => ⟨⟨-1000001, (fi, cn, xl), rfl, (by unfold opPlace; (try rw [zn_nI (n := i) (by omega)]); rw [zif_t c_4, zif_t c_20, zif_f c_24, zif_f c_34]; exact ⟨rfl, ⟨hf0, hf8, hf12, hf19, hf29, hc1, hc2, hc3, hc4, hc7, hc11, hc26, hc27, hc28⟩, ⟨_, _, _, _, _, _, _, _, _, hc5, hc6, hc9, hc10, hc24, hc25, hc21, hc22, hf23⟩⟩), by rw [ht]; exact hP, hD⟩, hS.F ht⟩) hS.2.2 dX3_place_40
  · refine lv_ldc2 hx hb hown (hts _ q1570) dX3_place_7 ?_
    exact W.lret (v := -1000002) hx hb hr (fun t ht hW => ⟨⟨-1000002, (fi, cn, xl), rfl, (by unfold opPlace; rw [zif_f c_4]; exact ⟨rfl, ⟨hf0, hf8, hf12, hf19, hf29, hc1, hc2, hc3, hc4, hc7, hc11, hc26, hc27, hc28⟩, ⟨_, _, _, _, _, _, _, _, _, hc5, hc6, hc9, hc10, hc24, hc25, hc21, hc22, hf23⟩⟩), by rw [ht]; exact hP, hD⟩, hS.F ht⟩) hS.2.2 dX3_place_10

set_option maxHeartbeats 4000000 in
set_option maxRecDepth 100000 in
theorem m_X3_origin (l : Launch) (g : zG) (ad : Nat → Nat) (fi : Nat → Int32) (cn : Nat → Nat → Int32) (xl : Nat → Nat → Int64) (sz : Nat) (S : zS) (hM : MR S fi cn) (hX : MX fi cn xl) (hI : SI S) (n2 i2 j2 : Int32) : Met l yX3_origin (ws_ yX3_origin cX3_origin 8 (some .int)) ({ frames := 4, cells := 0, slots := 0, locals := 95 }) (zPc g [.ref (ad 0), .int n2, .int i2, .int j2] (mH g ad fi cn xl sz)) (va_Qi (fun (r9 : Int32) u => r9 = (opOrigin S n2 i2 j2 ).1 ∧ MR (opOrigin S n2 i2 j2 ).2 u.1 u.2.1 ∧ MX u.1 u.2.1 u.2.2) (mB g ad sz) (mA ad sz)) 0 0 (mA ad sz) := by
  refine Met.ofW (cc := cX3_origin) (maxL := 8) (ret := (some .int)) (by decide) rfl ?_
  intro p e s m args below meth c s₁ B0 hml hv
  obtain ⟨rfl, ⟨hK, hN⟩, hsz, hP, hD⟩ := hv
  have hx := B0.exec
  have hb := B0.bytes
  have hr := B0.returns
  have hts := atoms_spec (ws := ws_ yX3_origin cX3_origin 8 (some .int)) B0.pre
  have hts : ∀ w ∈ lw_all, w.before _ s = true := fun w h => hts w (List.mem_cons_of_mem _ h)
  have hown : s.vm.findClass RX3 = some m.cls := findClass_of_methodNamed B0.named
  have hlocks := B0.notSynchronized
  subst hsz
  have hD := mD_self s.heap.size hD
  have hS : va_S (mA ad s.heap.size) s.heap s.heap [] := va_S.rf
  have hl := lv_entry ([.ref (ad 0), .int n2, .int i2, .int j2]) (n := 8) (Nat.le_of_ble_eq_true rfl)
  rw [lg_entry_eq]
  generalize (lg_sl ([.ref (ad 0), .int n2, .int i2, .int j2]) ++ List.replicate (8 - (lg_sl ([.ref (ad 0), .int n2, .int i2, .int j2])).length) Slot.unset).toArray = ls at hl ⊢
  have hl : lv_has ls 8 [(0, .ref (ad 0)), (1, .int n2), (2, .int i2), (3, .int j2)] := hl
  obtain ⟨hf0, hf8, hf12, hf19, hf29, hc1, hc2, hc3, hc4, hc7, hc11, hc26, hc27, hc28⟩ := hM
  obtain ⟨F5, F6, F9, F10, F24, E25, N21, N22, b23, hc5, hc6, hc9, hc10, hc24, hc25, hc21, hc22, hf23⟩ := hX
  have hB : bOK (S.2.1 4) := hI.1
  have h0 : S.2.1 4 0 ≤ 4 := hB.n4
  have h3 : S.2.1 4 3 ≤ 8 := hB.r8
  have hac := hI.2.2.1
  have hta := hI.2.2.2.1
  have hmn := hI.2.2.2.2.2.2.1
  have htn := hI.2.2.2.2.2.1
  refine lv_aload_n hx hb dX3_origin_0 rfl (lv_at hl 0 rfl) ?_
  have hQ_1 : va_P g.1 zCL [(ad 0, .inr (3, mO ad fi)), (ad 4, .inl (g.2 0, 44, .inl (cn 4)))] _ := hP.sub [0, 4] rfl
  rw [show _ = _ from hc4] at hQ_1
  refine vp_callSi (W.runV (As := []) (rest := []) ⟨hx, hb, hml, hown, hts⟩ (m_X3_isThere l g ad fi (S.2.1 4) hB  ) (cwV 0 hts (lw_V q1517 q1519 qs43 q69 q1520) rfl rfl rfl hdV_X3_isThere ⟨Nat.le_of_ble_eq_true rfl, Nat.le_of_ble_eq_true rfl⟩) (zpreV hK hN (va_recv hK hP (ci := 3) (q0 := 0) rfl rfl) hQ_1) rfl rfl hl.1 rfl (lv_room (Nat.le_of_ble_eq_true rfl)) dX3_origin_1 ⟨Nat.le_of_ble_eq_true rfl, Nat.le_of_ble_eq_true rfl⟩) (fun r_1 hr_1 => ?_)
  subst hr_1
  refine zi_neB (tgt := 10) hx hb dX3_origin_4 (by decide) (fun c_4 => ?_) (fun c_4 => ?_)
  · refine lv_iload_n hx hb dX3_origin_10 rfl (lv_at hl 1 rfl) ?_
    refine lv_i2l hx hb dX3_origin_11 rfl ?_
    refine lv_lconst (v := lN 0) hx hb dX3_origin_12 (by decide) ?_
    refine lv_ldc2 hx hb hown (hts _ q1561) dX3_origin_13 ?_
    refine ztl (show (6 : Int64) = lN 6 from rfl) ?_
    refine vp_callSi (W.runS (As := [.long n2.toInt64, .long (lN 0), .long (lN 6)]) (rest := []) ⟨hx, hb, hml, hown, hts⟩ (m_X3_in l g n2.toInt64 (lN 0) (lN 6)) (va_cwS 3 hts (lw_S q1397 q1398 q69 q1399) rfl rfl rfl hdS_X3_in ⟨Nat.le_of_ble_eq_true rfl, Nat.le_of_ble_eq_true rfl⟩) (zpreS hK hN trivial) rfl rfl hl.1 rfl (lv_room (Nat.le_of_ble_eq_true rfl)) dX3_origin_16 ⟨Nat.le_of_ble_eq_true rfl, Nat.le_of_ble_eq_true rfl⟩) (fun r_16 hr_16 => ?_)
    subst hr_16
    refine zti (show _ = zB (zIn n2 0 6) from zB_c (zIn_l n2 (by omega) (by omega))) ?_
    refine zi_neB (tgt := 25) hx hb dX3_origin_19 (by decide) (fun c_19 => ?_) (fun c_19 => ?_)
    · obtain ⟨n, rfl, hu_n, hv_n⟩ := zIn_ex c_19 (by omega)
      refine lv_aload_n hx hb dX3_origin_25 rfl (lv_at hl 0 rfl) ?_
      refine lv_aload_n hx hb dX3_origin_26 rfl (lv_at hl 0 rfl) ?_
      refine va_get (D := g.1) (ci := 3) (v := .ref (ad 4)) (C := RX3) (T := TX3) (N := 30) hx hb hts in_X3 hown hK hP 0 rfl rfl 4 (by decide) (hts _ q1301) (fun _ h9 => h9) rfl dX3_origin_27 ?_
      refine lv_iload_n hx hb dX3_origin_30 rfl (lv_at hl 1 rfl) ?_
      have hle_31 := hS.1
      refine va_calli (va_runV (As := [.ref (ad 4), .int (nI n)]) (rest := []) ⟨hx, hb, hml, hown, hts⟩ (m_X3_layGrown_4 l g ad fi cn xl _ (S.2.1 4) F9 F10 hc4 hc9 hc10 hB n (by omega)) (cwV 2 hts (lw_V q1531 q1533 qs44 q69 q1534) rfl rfl rfl hdV_X3_layGrown ⟨Nat.le_of_ble_eq_true rfl, Nat.le_of_ble_eq_true rfl⟩) (zpreV hK hN (va_recv hK hP (ci := 3) (q0 := 0) rfl rfl) ⟨rfl, hP, hD.weaken (fun _ _ _ _ => trivial)⟩) rfl rfl hl.1 rfl (lv_room (Nat.le_of_ble_eq_true rfl)) dX3_origin_31 ⟨Nat.le_of_ble_eq_true rfl, Nat.le_of_ble_eq_true rfl⟩) hS (fun q _ h => mA_le hS.1 q h) (mA_le hS.1) (fun r_31 u t H locs ht hvm hw_31 hB hzz hkk hS => ?_)
      obtain ⟨hP, hD⟩ := hB
      rw [ht] at hP
      have hD := hD.weaken (fun _ _ _ h => mA_le hle_31 _ h)
      obtain ⟨rfl, Lg34, Pg34, rfl, hG_34⟩ := hw_31
      have hP : va_P g.1 zCL (mW g ad fi (va_up (va_up cn 9 (nF Lg34)) 10 (nF Pg34)) xl) _ := hP
      have hD : va_D (mA ad s.heap.size) (mW g ad fi (va_up (va_up cn 9 (nF Lg34)) 10 (nF Pg34)) xl) := hD
      by_cases hgk : gok (S.2.1 4) n
      · refine zti (show _ = nI ((grl (S.2.1 4) n).length) from zif_t hgk) ?_
        have hLg := hG_34 hgk
        have hg3 := hgk n (Nat.le_refl _)
        have hLA := lAll_grl hB n
        refine lv_istore (lv' := [(4, .int (nI ((grl (S.2.1 4) n).length))), (0, .ref (ad 0)), (1, .int (nI n)), (2, .int i2), (3, .int j2)]) hx hb dX3_origin_34 hl (by decide) rfl (fun ls hl => ?_)
        refine lv_iload hx hb dX3_origin_36 (lv_at hl 0 rfl) ?_
        refine lv_ldc hx hb hown (hts _ q1424) dX3_origin_38 ?_
        refine lv_icmp_ne (tgt := 46) hx hb dX3_origin_40 (by decide) (fun c_40 => ?_) (fun c_40 => ?_)
        · refine lv_iload_n hx hb dX3_origin_46 rfl (lv_at hl 3 rfl) ?_
          refine lv_i2l hx hb dX3_origin_47 rfl ?_
          refine lv_lconst (v := lN 0) hx hb dX3_origin_48 (by decide) ?_
          refine lv_iload hx hb dX3_origin_49 (lv_at hl 0 rfl) ?_
          refine lv_iconst (v := nI 1) hx hb dX3_origin_51 (by decide) ?_
          refine lv_isub hx hb dX3_origin_52 ?_
          refine lv_i2l hx hb dX3_origin_53 rfl ?_
          refine vp_callSi (W.runS (As := [.long i2.toInt64, .long (lN 0), .long (((nI ((grl (S.2.1 4) n).length)) - (nI 1)).toInt64)]) (rest := []) ⟨hx, hb, hml, hown, hts⟩ (m_X3_in l g i2.toInt64 (lN 0) (((nI ((grl (S.2.1 4) n).length)) - (nI 1)).toInt64)) (va_cwS 3 hts (lw_S q1397 q1398 q69 q1399) rfl rfl rfl hdS_X3_in ⟨Nat.le_of_ble_eq_true rfl, Nat.le_of_ble_eq_true rfl⟩) (zpreS hK hN trivial) rfl rfl hl.1 rfl (lv_room (Nat.le_of_ble_eq_true rfl)) dX3_origin_54 ⟨Nat.le_of_ble_eq_true rfl, Nat.le_of_ble_eq_true rfl⟩) (fun r_54 hr_54 => ?_)
          subst hr_54
          refine zti (zB_c (zIn_w i2 ((nI ((grl (S.2.1 4) n).length)) - (nI 1)) (by omega))) ?_
          refine zti (show zB (zIn i2 0 ((nI ((grl (S.2.1 4) n).length)) - (nI 1)).toInt) = zB (zIn i2 0 ((((grl (S.2.1 4) n).length) : Nat) - 1 : Int)) from by rw [show nI 1 = (1 : Int32) from rfl, zpred (by omega)]) ?_
          refine zi_eqB (tgt := 71) hx hb dX3_origin_57 (by decide) (fun c_57 => ?_) (fun c_57 => ?_)
          · refine lv_ldc hx hb hown (hts _ q1401) dX3_origin_71 ?_
            exact W.iret (v := -1000001) hx hb hr (fun t ht hW => ⟨⟨-1000001, (fi, va_up (va_up cn 9 (nF Lg34)) 10 (nF Pg34), xl), rfl, (by unfold opOrigin; (try rw [zn_nI (n := n) (by omega)]); rw [zif_t c_4, zif_t c_19, zif_t hgk, zif_f c_57]; exact ⟨rfl, ⟨hf0, hf8, hf12, hf19, hf29, hc1, hc2, hc3, hc4, hc7, hc11, hc26, hc27, hc28⟩, ⟨_, _, _, _, _, _, _, _, _, hc5, hc6, rfl, rfl, hc24, hc25, hc21, hc22, hf23⟩⟩), by rw [ht]; exact hP, hD⟩, hS.F ht⟩) hS.2.2 dX3_origin_73
          · refine lv_iload_n hx hb dX3_origin_60 rfl (lv_at hl 4 rfl) ?_
            refine lv_i2l hx hb dX3_origin_61 rfl ?_
            refine lv_lconst (v := lN 0) hx hb dX3_origin_62 (by decide) ?_
            refine lv_iload_n hx hb dX3_origin_63 rfl (lv_at hl 2 rfl) ?_
            refine lv_i2l (v := lN n) hx hb dX3_origin_64 (nI_l (by omega)) ?_
            refine vp_callSi (W.runS (As := [.long j2.toInt64, .long (lN 0), .long (lN n)]) (rest := []) ⟨hx, hb, hml, hown, hts⟩ (m_X3_in l g j2.toInt64 (lN 0) (lN n)) (va_cwS 3 hts (lw_S q1397 q1398 q69 q1399) rfl rfl rfl hdS_X3_in ⟨Nat.le_of_ble_eq_true rfl, Nat.le_of_ble_eq_true rfl⟩) (zpreS hK hN trivial) rfl rfl hl.1 rfl (lv_room (Nat.le_of_ble_eq_true rfl)) dX3_origin_65 ⟨Nat.le_of_ble_eq_true rfl, Nat.le_of_ble_eq_true rfl⟩) (fun r_65 hr_65 => ?_)
            subst hr_65
            refine zti (show _ = zB (zIn j2 0 ((n : Nat) : Int)) from zB_c (zIn_l j2 (by omega) (by omega))) ?_
            refine zi_neB (tgt := 74) hx hb dX3_origin_68 (by decide) (fun c_68 => ?_) (fun c_68 => ?_)
            · obtain ⟨i, rfl, hu_i, hv_i⟩ := zIn_ex c_57 (by omega)
              obtain ⟨j, rfl, hu_j, hv_j⟩ := zIn_ex c_68 (by omega)
              have hi9 : i < (grl (S.2.1 4) n).length := by omega
              refine lv_iload_n hx hb dX3_origin_74 rfl (lv_at hl 3 rfl) ?_
              refine lv_istore (lv' := [(5, .int (nI i)), (4, .int (nI ((grl (S.2.1 4) n).length))), (0, .ref (ad 0)), (1, .int (nI n)), (2, .int (nI i)), (3, .int (nI j))]) hx hb dX3_origin_75 hl (by decide) rfl (fun ls hl => ?_)
              refine lv_iconst (v := nI 1) hx hb dX3_origin_77 (by decide) ?_
              refine lv_istore (lv' := [(6, .int (nI 1)), (5, .int (nI i)), (4, .int (nI ((grl (S.2.1 4) n).length))), (0, .ref (ad 0)), (1, .int (nI n)), (2, .int (nI i)), (3, .int (nI j))]) hx hb dX3_origin_78 hl (by decide) rfl (fun ls hl => ?_)
              refine zloopW (head := 80) (j) (fun q1 H locs cells slots ls => ∃ (L0 : Nat → Nat) (P0 : Nat → Nat), cells = 0 ∧ slots = 0 ∧ va_P g.1 zCL (mW g ad fi (va_up (va_up cn 9 (nF L0)) 10 (nF P0)) xl) H ∧ va_D (mA ad s.heap.size) (mW g ad fi (va_up (va_up cn 9 (nF L0)) 10 (nF P0)) xl) ∧ va_S (mA ad s.heap.size) s.heap H locs ∧ lv_has ls 8 [(0, .ref (ad 0)), (1, .int (nI n)), (2, .int (nI i)), (3, .int (nI j)), (5, .int (nI (borig (S.2.1 4) n i q1))), (6, .int (nI (q1 + 1)))] ∧ True) (fun q1 hv_q1 ih_80 H locs cells slots ls hI => ?_) 0 (Nat.zero_le _) ?_
              · obtain ⟨L0, P0, rfl, rfl, hP, hD, hS, hl, hI_80⟩ := hI
                refine lv_iload hx hb dX3_origin_80 (lv_at hl 5 rfl) ?_
                refine lv_iload_n hx hb dX3_origin_82 rfl (lv_at hl 3 rfl) ?_
                refine zc_gt (tgt := 164) hx hb (by omega) (by omega) dX3_origin_83 (by decide) (fun c_83 => ?_) (fun c_83 => ?_)
                · obtain rfl : j = q1 := by omega
                  refine lv_iload hx hb dX3_origin_164 (lv_at hl 4 rfl) ?_
                  exact W.iret (v := nI (borig (S.2.1 4) n i j)) hx hb hr (fun t ht hW => ⟨⟨nI (borig (S.2.1 4) n i j), (fi, va_up (va_up cn 9 (nF L0)) 10 (nF P0), xl), rfl, (by unfold opOrigin; (try rw [zn_nI (n := n) (by omega)]); (try rw [zn_nI (n := i) (by omega)]); (try rw [zn_nI (n := j) (by omega)]); rw [zif_t c_4, zif_t c_19, zif_t hgk, zif_t c_57, zif_t c_68]; exact ⟨rfl, ⟨hf0, hf8, hf12, hf19, hf29, hc1, hc2, hc3, hc4, hc7, hc11, hc26, hc27, hc28⟩, ⟨_, _, _, _, _, _, _, _, _, hc5, hc6, rfl, rfl, hc24, hc25, hc21, hc22, hf23⟩⟩), by rw [ht]; exact hP, hD⟩, hS.F ht⟩) hS.2.2 dX3_origin_166
                · refine lv_aload_n hx hb dX3_origin_86 rfl (lv_at hl 0 rfl) ?_
                  refine lv_aload_n hx hb dX3_origin_87 rfl (lv_at hl 0 rfl) ?_
                  refine va_get (D := g.1) (ci := 3) (v := .ref (ad 4)) (C := RX3) (T := TX3) (N := 30) hx hb hts in_X3 hown hK hP 0 rfl rfl 4 (by decide) (hts _ q1301) (fun _ h9 => h9) rfl dX3_origin_88 ?_
                  refine lv_iload_n hx hb dX3_origin_91 rfl (lv_at hl 1 rfl) ?_
                  refine lv_iload hx hb dX3_origin_92 (lv_at hl 5 rfl) ?_
                  refine lv_isub hx hb dX3_origin_94 ?_
                  refine zti (pk_sub (a := n) (b := q1 + 1) (by omega)) ?_
                  have hle_95 := hS.1
                  refine va_calli (va_runV (As := [.ref (ad 4), .int (nI (n - (q1 + 1)))]) (rest := []) ⟨hx, hb, hml, hown, hts⟩ (m_X3_layGrown_4 l g ad fi (va_up (va_up cn 9 (nF L0)) 10 (nF P0)) xl _ (S.2.1 4) L0 P0 hc4 rfl rfl hB (n - (q1 + 1)) (by omega)) (cwV 2 hts (lw_V q1531 q1533 qs44 q69 q1534) rfl rfl rfl hdV_X3_layGrown ⟨Nat.le_of_ble_eq_true rfl, Nat.le_of_ble_eq_true rfl⟩) (zpreV hK hN (va_recv hK hP (ci := 3) (q0 := 0) rfl rfl) ⟨rfl, hP, hD.weaken (fun _ _ _ _ => trivial)⟩) rfl rfl hl.1 rfl (lv_room (Nat.le_of_ble_eq_true rfl)) dX3_origin_95 ⟨Nat.le_of_ble_eq_true rfl, Nat.le_of_ble_eq_true rfl⟩) hS (fun q _ h => mA_le hS.1 q h) (mA_le hS.1) (fun r_95 u t H locs ht hvm hw_95 hB hzz hkk hS => ?_)
                  obtain ⟨hP, hD⟩ := hB
                  rw [ht] at hP
                  have hD := hD.weaken (fun _ _ _ h => mA_le hle_95 _ h)
                  obtain ⟨rfl, Lg98, Pg98, rfl, hG_98⟩ := hw_95
                  have hP : va_P g.1 zCL (mW g ad fi (va_up (va_up cn 9 (nF Lg98)) 10 (nF Pg98)) xl) _ := hP
                  have hD : va_D (mA ad s.heap.size) (mW g ad fi (va_up (va_up cn 9 (nF Lg98)) 10 (nF Pg98)) xl) := hD
                  refine zti (show _ = nI ((grl (S.2.1 4) (n - (q1 + 1))).length) from zif_t (gok_le hgk (by omega))) ?_
                  have hLt := hG_98 (gok_le hgk (by omega))
                  have hgt := hgk (n - (q1 + 1)) (by omega)
                  have hLAt := lAll_grl hB (n - (q1 + 1))
                  have hot := borig_lt (B := S.2.1 4) (n := n) (a := i) (by omega) (show q1 ≤ n by omega)
                  have hg7 := hgk (n - q1) (by omega)
                  rw [show n - q1 = n - (q1 + 1) + 1 by omega] at hot hg7
                  have hLe := hLt.len (B := S.2.1 4)
                  have hot : borig (S.2.1 4) n i q1 < zsum (fun q => bil (S.2.1 4) (Lg98 q)) (grl (S.2.1 4) (n - (q1 + 1))).length := by rw [hLe]; exact hot
                  refine lv_istore (lv' := [(4, .int (nI ((grl (S.2.1 4) (n - (q1 + 1))).length))), (0, .ref (ad 0)), (1, .int (nI n)), (2, .int (nI i)), (3, .int (nI j)), (5, .int (nI (borig (S.2.1 4) n i q1))), (6, .int (nI (q1 + 1)))]) hx hb dX3_origin_98 hl (by decide) rfl (fun ls hl => ?_)
                  refine lv_iload hx hb dX3_origin_100 (lv_at hl 5 rfl) ?_
                  refine lv_istore (lv' := [(7, .int (nI (borig (S.2.1 4) n i q1))), (4, .int (nI ((grl (S.2.1 4) (n - (q1 + 1))).length))), (0, .ref (ad 0)), (1, .int (nI n)), (2, .int (nI i)), (3, .int (nI j)), (5, .int (nI (borig (S.2.1 4) n i q1))), (6, .int (nI (q1 + 1)))]) hx hb dX3_origin_102 hl (by decide) rfl (fun ls hl => ?_)
                  refine lv_iconst (v := nI 0) hx hb dX3_origin_104 (by decide) ?_
                  refine lv_istore (lv' := [(5, .int (nI 0)), (7, .int (nI (borig (S.2.1 4) n i q1))), (4, .int (nI ((grl (S.2.1 4) (n - (q1 + 1))).length))), (0, .ref (ad 0)), (1, .int (nI n)), (2, .int (nI i)), (3, .int (nI j)), (6, .int (nI (q1 + 1)))]) hx hb dX3_origin_105 hl (by decide) rfl (fun ls hl => ?_)
                  refine zloopI (head := 107) (nL := 8) ((grl (S.2.1 4) (n - (q1 + 1))).length) (fun k => zsum (fun q => bil (S.2.1 4) (Lg98 q)) k ≤ borig (S.2.1 4) n i q1) (fun k => [(0, .ref (ad 0)), (1, .int (nI n)), (2, .int (nI i)), (3, .int (nI j)), (4, .int (nI ((grl (S.2.1 4) (n - (q1 + 1))).length))), (5, .int (nI k)), (6, .int (nI (q1 + 1))), (7, .int (nI (borig (S.2.1 4) n i q1 - zsum (fun q => bil (S.2.1 4) (Lg98 q)) k)))]) (fun k hv_k hI_107 ih_107 ls hl => ?_) 0 (Nat.zero_le _) (Nat.zero_le _) (lv_sub hl [3, 4, 5, 6, 2, 0, 7, 1] rfl)
                  refine lv_iload hx hb dX3_origin_107 (lv_at hl 5 rfl) ?_
                  refine lv_iload hx hb dX3_origin_109 (lv_at hl 4 rfl) ?_
                  refine zc_ge (tgt := 158) hx hb (by omega) (by omega) dX3_origin_111 (by decide) (fun c_111 => ?_) (fun c_111 => ?_)
                  · obtain rfl : (grl (S.2.1 4) (n - (q1 + 1))).length = k := by omega
                    omega
                  · have hk9 : k < (grl (S.2.1 4) (n - (q1 + 1))).length := by omega
                    have hLk := hLt.lt hLAt hk9
                    have hLkk := (hB.kd hLk).2
                    have hLl := (hB.il hLk).2
                    refine lv_iload hx hb dX3_origin_114 (lv_at hl 7 rfl) ?_
                    refine lv_aload_n hx hb dX3_origin_116 rfl (lv_at hl 0 rfl) ?_
                    refine va_get (D := g.1) (ci := 3) (v := .ref (ad 4)) (C := RX3) (T := TX3) (N := 30) hx hb hts in_X3 hown hK hP 0 rfl rfl 4 (by decide) (hts _ q1301) (fun _ h9 => h9) rfl dX3_origin_117 ?_
                    refine lv_aload_n hx hb dX3_origin_120 rfl (lv_at hl 0 rfl) ?_
                    refine va_get (D := g.1) (ci := 3) (v := .ref (ad 9)) (C := RX3) (T := TX3) (N := 30) hx hb hts in_X3 hown hK hP 0 rfl rfl 9 (by decide) (hts _ q1306) (fun _ h9 => h9) rfl dX3_origin_121 ?_
                    refine lv_iload hx hb dX3_origin_124 (lv_at hl 5 rfl) ?_
                    refine zald hx hb hK hP 8 0 rfl rfl (j := k) (by omega) (by decide) dX3_origin_126 ?_
                    refine zti (show (nF Lg98) k = nI (Lg98 k) from rfl) ?_
                    have hQ_127 : va_P g.1 zCL [(ad 4, .inl (g.2 0, 44, .inl (cn 4)))] _ := hP.sub [4] rfl
                    rw [show _ = _ from hc4] at hQ_127
                    refine vp_callSi (W.runS (As := [.ref (ad 4), .int (nI (Lg98 k))]) (rest := [.int (nI (borig (S.2.1 4) n i q1 - zsum (fun q => bil (S.2.1 4) (Lg98 q)) k))]) ⟨hx, hb, hml, hown, hts⟩ (m_X3_imageSize l g (ad 4) (S.2.1 4) (Lg98 k) (by omega) (by first | assumption | omega | exact (hB.kd (by omega)).2)) (va_cwS 2 hts (lw_S q1539 q1540 q69 q1541) rfl rfl rfl hdS_X3_imageSize ⟨Nat.le_of_ble_eq_true rfl, Nat.le_of_ble_eq_true rfl⟩) (zpreS hK hN hQ_127) rfl rfl hl.1 rfl (lv_room (Nat.le_of_ble_eq_true rfl)) dX3_origin_127 ⟨Nat.le_of_ble_eq_true rfl, Nat.le_of_ble_eq_true rfl⟩) (fun r_127 hr_127 => ?_)
                    subst hr_127
                    refine zc_lt (tgt := 158) hx hb (by omega) (by omega) dX3_origin_130 (by decide) (fun c_130 => ?_) (fun c_130 => ?_)
                    · have hpar : borig (S.2.1 4) n i (q1 + 1) = k := by
                        show bpar (S.2.1 4) (grl (S.2.1 4) (n - (q1 + 1))) (borig (S.2.1 4) n i q1) = k
                        have e9 : borig (S.2.1 4) n i q1 = zsum (fun q => bil (S.2.1 4) ((grl (S.2.1 4) (n - (q1 + 1))).getD q 0)) k + (borig (S.2.1 4) n i q1 - zsum (fun q => bil (S.2.1 4) (Lg98 q)) k) := by rw [← hLt.sum (by omega)]; omega
                        rw [e9]
                        exact bpar_at (S.2.1 4) _ k _ (by omega) (by rw [← hLt k (by omega)]; omega)
                      rw [← hpar] at hl
                      have hl : lv_has ls 8 [(0, .ref (ad 0)), (1, .int (nI n)), (2, .int (nI i)), (3, .int (nI j)), (4, .int (nI ((grl (S.2.1 4) (n - (q1 + 1))).length))), (5, .int (nI (borig (S.2.1 4) n i (q1 + 1)))), (6, .int (nI (q1 + 1))), (7, .int (nI (borig (S.2.1 4) n i q1 - zsum (fun q => bil (S.2.1 4) (Lg98 q)) (borig (S.2.1 4) n i (q1 + 1)))))] := hl
                      have hJ : True := trivial
                      refine lv_iinc (v := nI (q1 + 1 + 1)) (lv' := [(6, .int (nI (q1 + 1 + 1))), (0, .ref (ad 0)), (1, .int (nI n)), (2, .int (nI i)), (3, .int (nI j)), (4, .int (nI ((grl (S.2.1 4) (n - (q1 + 1))).length))), (5, .int (nI (borig (S.2.1 4) n i (q1 + 1)))), (7, .int (nI (borig (S.2.1 4) n i q1 - zsum (fun q => bil (S.2.1 4) (Lg98 q)) (borig (S.2.1 4) n i (q1 + 1)))))]) hx hb dX3_origin_158 hl (k := 6) rfl (nI_add (q1 + 1) 1) (by decide) rfl (fun ls hl => ?_)
                      refine lv_goto (tgt := 80) hx hb dX3_origin_161 (by decide) ?_
                      exact ih_80 (by omega) _ _ _ _ _ ⟨Lg98, Pg98, rfl, rfl, hP, hD, hS, lv_sub hl [1, 2, 3, 4, 6, 0] rfl, hJ⟩
                    · have hI2 : zsum (fun q => bil (S.2.1 4) (Lg98 q)) (k + 1) ≤ borig (S.2.1 4) n i q1 := by show zsum (fun q => bil (S.2.1 4) (Lg98 q)) k + bil (S.2.1 4) (Lg98 k) ≤ _; omega
                      have e8 : borig (S.2.1 4) n i q1 - zsum (fun q => bil (S.2.1 4) (Lg98 q)) (k + 1) = borig (S.2.1 4) n i q1 - zsum (fun q => bil (S.2.1 4) (Lg98 q)) k - bil (S.2.1 4) (Lg98 k) := by show borig (S.2.1 4) n i q1 - (zsum (fun q => bil (S.2.1 4) (Lg98 q)) k + bil (S.2.1 4) (Lg98 k)) = _; omega
                      refine lv_iload hx hb dX3_origin_133 (lv_at hl 7 rfl) ?_
                      refine lv_aload_n hx hb dX3_origin_135 rfl (lv_at hl 0 rfl) ?_
                      refine va_get (D := g.1) (ci := 3) (v := .ref (ad 4)) (C := RX3) (T := TX3) (N := 30) hx hb hts in_X3 hown hK hP 0 rfl rfl 4 (by decide) (hts _ q1301) (fun _ h9 => h9) rfl dX3_origin_136 ?_
                      refine lv_aload_n hx hb dX3_origin_139 rfl (lv_at hl 0 rfl) ?_
                      refine va_get (D := g.1) (ci := 3) (v := .ref (ad 9)) (C := RX3) (T := TX3) (N := 30) hx hb hts in_X3 hown hK hP 0 rfl rfl 9 (by decide) (hts _ q1306) (fun _ h9 => h9) rfl dX3_origin_140 ?_
                      refine lv_iload hx hb dX3_origin_143 (lv_at hl 5 rfl) ?_
                      refine zald hx hb hK hP 8 0 rfl rfl (j := k) (by omega) (by decide) dX3_origin_145 ?_
                      refine zti (show (nF Lg98) k = nI (Lg98 k) from rfl) ?_
                      have hQ_146 : va_P g.1 zCL [(ad 4, .inl (g.2 0, 44, .inl (cn 4)))] _ := hP.sub [4] rfl
                      rw [show _ = _ from hc4] at hQ_146
                      refine vp_callSi (W.runS (As := [.ref (ad 4), .int (nI (Lg98 k))]) (rest := [.int (nI (borig (S.2.1 4) n i q1 - zsum (fun q => bil (S.2.1 4) (Lg98 q)) k))]) ⟨hx, hb, hml, hown, hts⟩ (m_X3_imageSize l g (ad 4) (S.2.1 4) (Lg98 k) (by omega) (by first | assumption | omega | exact (hB.kd (by omega)).2)) (va_cwS 2 hts (lw_S q1539 q1540 q69 q1541) rfl rfl rfl hdS_X3_imageSize ⟨Nat.le_of_ble_eq_true rfl, Nat.le_of_ble_eq_true rfl⟩) (zpreS hK hN hQ_146) rfl rfl hl.1 rfl (lv_room (Nat.le_of_ble_eq_true rfl)) dX3_origin_146 ⟨Nat.le_of_ble_eq_true rfl, Nat.le_of_ble_eq_true rfl⟩) (fun r_146 hr_146 => ?_)
                      subst hr_146
                      refine lv_isub hx hb dX3_origin_149 ?_
                      refine zti (pk_sub (a := borig (S.2.1 4) n i q1 - zsum (fun q => bil (S.2.1 4) (Lg98 q)) k) (b := bil (S.2.1 4) (Lg98 k)) (by omega)) ?_
                      refine lv_istore (lv' := [(7, .int (nI ((borig (S.2.1 4) n i q1 - zsum (fun q => bil (S.2.1 4) (Lg98 q)) k) - (bil (S.2.1 4) (Lg98 k))))), (0, .ref (ad 0)), (1, .int (nI n)), (2, .int (nI i)), (3, .int (nI j)), (4, .int (nI ((grl (S.2.1 4) (n - (q1 + 1))).length))), (5, .int (nI k)), (6, .int (nI (q1 + 1)))]) hx hb dX3_origin_150 hl (by decide) rfl (fun ls hl => ?_)
                      refine lv_iinc (v := nI (k + 1)) (lv' := [(5, .int (nI (k + 1))), (7, .int (nI ((borig (S.2.1 4) n i q1 - zsum (fun q => bil (S.2.1 4) (Lg98 q)) k) - (bil (S.2.1 4) (Lg98 k))))), (0, .ref (ad 0)), (1, .int (nI n)), (2, .int (nI i)), (3, .int (nI j)), (4, .int (nI ((grl (S.2.1 4) (n - (q1 + 1))).length))), (6, .int (nI (q1 + 1)))]) hx hb dX3_origin_152 hl (k := 6) rfl (nI_add k 1) (by decide) rfl (fun ls hl => ?_)
                      refine lv_goto (tgt := 107) hx hb dX3_origin_155 (by decide) ?_
                      exact ih_107 (by omega) (hI2) _ (by rw [show borig (S.2.1 4) n i q1 - zsum (fun q => bil (S.2.1 4) (Lg98 q)) (k + 1) = borig (S.2.1 4) n i q1 - zsum (fun q => bil (S.2.1 4) (Lg98 q)) k - bil (S.2.1 4) (Lg98 k) from e8]; exact lv_sub hl [2, 3, 4, 5, 6, 0, 7, 1] rfl)
              · have hP : va_P g.1 zCL (mW g ad fi (va_up (va_up cn 9 (nF Lg34)) 10 (nF Pg34)) xl) _ := hP
                have hD : va_D (mA ad s.heap.size) (mW g ad fi (va_up (va_up cn 9 (nF Lg34)) 10 (nF Pg34)) xl) := hD
                exact ⟨Lg34, Pg34, rfl, rfl, hP, hD, hS, lv_sub hl [3, 4, 5, 6, 1, 0] rfl, trivial⟩
            · refine lv_ldc hx hb hown (hts _ q1401) dX3_origin_71 ?_
              exact W.iret (v := -1000001) hx hb hr (fun t ht hW => ⟨⟨-1000001, (fi, va_up (va_up cn 9 (nF Lg34)) 10 (nF Pg34), xl), rfl, (by unfold opOrigin; (try rw [zn_nI (n := n) (by omega)]); rw [zif_t c_4, zif_t c_19, zif_t hgk, zif_t c_57, zif_f c_68]; exact ⟨rfl, ⟨hf0, hf8, hf12, hf19, hf29, hc1, hc2, hc3, hc4, hc7, hc11, hc26, hc27, hc28⟩, ⟨_, _, _, _, _, _, _, _, _, hc5, hc6, rfl, rfl, hc24, hc25, hc21, hc22, hf23⟩⟩), by rw [ht]; exact hP, hD⟩, hS.F ht⟩) hS.2.2 dX3_origin_73
        · exact absurd c_40 (nI_nF (by omega))
      · refine zti (show _ = -1000003 from zif_f hgk) ?_
        refine lv_istore (lv' := [(4, .int (-1000003)), (0, .ref (ad 0)), (1, .int (nI n)), (2, .int i2), (3, .int j2)]) hx hb dX3_origin_34 hl (by decide) rfl (fun ls hl => ?_)
        refine lv_iload hx hb dX3_origin_36 (lv_at hl 0 rfl) ?_
        refine lv_ldc hx hb hown (hts _ q1424) dX3_origin_38 ?_
        refine lv_icmp_ne (tgt := 46) hx hb dX3_origin_40 (by decide) (fun c_40 => ?_) (fun c_40 => ?_)
        · exact absurd rfl c_40
        · refine lv_ldc hx hb hown (hts _ q1424) dX3_origin_43 ?_
          exact W.iret (v := -1000003) hx hb hr (fun t ht hW => ⟨⟨-1000003, (fi, va_up (va_up cn 9 (nF Lg34)) 10 (nF Pg34), xl), rfl, (by unfold opOrigin; (try rw [zn_nI (n := n) (by omega)]); rw [zif_t c_4, zif_t c_19, zif_f hgk]; exact ⟨rfl, ⟨hf0, hf8, hf12, hf19, hf29, hc1, hc2, hc3, hc4, hc7, hc11, hc26, hc27, hc28⟩, ⟨_, _, _, _, _, _, _, _, _, hc5, hc6, rfl, rfl, hc24, hc25, hc21, hc22, hf23⟩⟩), by rw [ht]; exact hP, hD⟩, hS.F ht⟩) hS.2.2 dX3_origin_45
    · refine lv_ldc hx hb hown (hts _ q1401) dX3_origin_22 ?_
      exact W.iret (v := -1000001) hx hb hr (fun t ht hW => ⟨⟨-1000001, (fi, cn, xl), rfl, (by unfold opOrigin; rw [zif_t c_4, zif_f c_19]; exact ⟨rfl, ⟨hf0, hf8, hf12, hf19, hf29, hc1, hc2, hc3, hc4, hc7, hc11, hc26, hc27, hc28⟩, ⟨_, _, _, _, _, _, _, _, _, hc5, hc6, hc9, hc10, hc24, hc25, hc21, hc22, hf23⟩⟩), by rw [ht]; exact hP, hD⟩, hS.F ht⟩) hS.2.2 dX3_origin_24
  · refine lv_ldc hx hb hown (hts _ q1475) dX3_origin_7 ?_
    exact W.iret (v := -1000002) hx hb hr (fun t ht hW => ⟨⟨-1000002, (fi, cn, xl), rfl, (by unfold opOrigin; rw [zif_f c_4]; exact ⟨rfl, ⟨hf0, hf8, hf12, hf19, hf29, hc1, hc2, hc3, hc4, hc7, hc11, hc26, hc27, hc28⟩, ⟨_, _, _, _, _, _, _, _, _, hc5, hc6, hc9, hc10, hc24, hc25, hc21, hc22, hf23⟩⟩), by rw [ht]; exact hP, hD⟩, hS.F ht⟩) hS.2.2 dX3_origin_9
