/-! the twin: tokens -/
set_option maxHeartbeats 4000000 in
set_option maxRecDepth 100000 in
theorem m_X3_nextToken (l : Launch) (g : zG) (ad : Nat → Nat) (fi : Nat → Int32) (cn : Nat → Nat → Int32) (xl : Nat → Nat → Int64) (sz : Nat) (T : Nat → Nat) (n cu : Nat) (hc11 : cn 11 = nF T) (hf12 : fi 12 = nI n) (hf13 : fi 13 = nI cu) (hcn0 : cu ≤ n) (hn120 : n ≤ 120) (hT : ∀ j, T j < 256) : Met l yX3_nextToken (ws_ yX3_nextToken cX3_nextToken 1 none) ({ frames := 1, cells := 0, slots := 0, locals := 25 }) (zPc g [.ref (ad 0)] (mH g ad fi cn xl sz)) (va_Qv (fun u => True ∧ u = (va_up (va_up (va_up (va_up fi 13 (nI (tkE T n cu))) 14 (nI cu)) 15 (nI (tkK T n cu))) 16 (tkV T n cu), cn, xl)) (mB g ad sz) (mA ad sz)) 0 0 (mA ad sz) := by
  refine Met.ofW (cc := cX3_nextToken) (maxL := 1) (ret := none) (by decide) rfl ?_
  intro p e s m args below meth c s₁ B0 hml hv
  obtain ⟨rfl, ⟨hK, hN⟩, hsz, hP, hD⟩ := hv
  have hx := B0.exec
  have hb := B0.bytes
  have hr := B0.returns
  have hts := atoms_spec (ws := ws_ yX3_nextToken cX3_nextToken 1 none) B0.pre
  have hts : ∀ w ∈ lw_all, w.before _ s = true := fun w h => hts w (List.mem_cons_of_mem _ h)
  have hown : s.vm.findClass RX3 = some m.cls := findClass_of_methodNamed B0.named
  have hlocks := B0.notSynchronized
  subst hsz
  have hD := mD_self s.heap.size hD
  have hS : va_S (mA ad s.heap.size) s.heap s.heap [] := va_S.rf
  have hl := lv_entry ([.ref (ad 0)]) (n := 1) (Nat.le_of_ble_eq_true rfl)
  rw [lg_entry_eq]
  generalize (lg_sl ([.ref (ad 0)]) ++ List.replicate (1 - (lg_sl ([.ref (ad 0)])).length) Slot.unset).toArray = ls at hl ⊢
  have hl : lv_has ls 1 [(0, .ref (ad 0))] := hl
  by_cases hcn : cu < n
  · have hTc := hT cu
    refine lv_aload_n hx hb dX3_nextToken_0 rfl (lv_at hl 0 rfl) ?_
    refine lv_aload_n hx hb dX3_nextToken_1 rfl (lv_at hl 0 rfl) ?_
    refine va_get (D := g.1) (ci := 3) (v := .int (fi 13)) (C := RX3) (T := TX3) (N := 30) hx hb hts in_X3 hown hK hP 0 rfl rfl 13 (by decide) (hts _ q1310) (fun _ h9 => h9) rfl dX3_nextToken_2 ?_
    refine zti (hf13) ?_
    refine va_put (D := g.1) (ci := 3) (v := .int (nI cu)) (ty := .int) (C := RX3) (T := TX3) (N := 30) hx hb hts in_X3 tyX3 tyX3_ok nmX3 hown hK hP hD hS 0 rfl rfl 14 (by decide) (hts _ q1311) (fun _ h9 => h9) rfl (by decide +kernel) rfl rfl (Nat.le_of_ble_eq_true rfl) dX3_nextToken_5 (fun H locs hP hD hS => ?_)
    have hP : va_P g.1 zCL (mW g ad (va_up fi 14 (nI cu)) cn xl) _ := hP
    have hD : va_D (mA ad s.heap.size) (mW g ad (va_up fi 14 (nI cu)) cn xl) := hD
    refine lv_aload_n hx hb dX3_nextToken_8 rfl (lv_at hl 0 rfl) ?_
    refine lv_aload_n hx hb dX3_nextToken_9 rfl (lv_at hl 0 rfl) ?_
    refine va_get (D := g.1) (ci := 3) (v := .int (fi 13)) (C := RX3) (T := TX3) (N := 30) hx hb hts in_X3 hown hK hP 0 rfl rfl 13 (by decide) (hts _ q1310) (fun _ h9 => h9) rfl dX3_nextToken_10 ?_
    refine zti (hf13) ?_
    refine lv_aload_n hx hb dX3_nextToken_13 rfl (lv_at hl 0 rfl) ?_
    refine va_get (D := g.1) (ci := 3) (v := .int (fi 12)) (C := RX3) (T := TX3) (N := 30) hx hb hts in_X3 hown hK hP 0 rfl rfl 12 (by decide) (hts _ q1309) (fun _ h9 => h9) rfl dX3_nextToken_14 ?_
    refine zti (hf12) ?_
    refine zc_ge (tgt := 32) hx hb (by omega) (by omega) dX3_nextToken_17 (by decide) (fun c_17 => ?_) (fun c_17 => ?_)
    · omega
    · refine lv_aload_n hx hb dX3_nextToken_20 rfl (lv_at hl 0 rfl) ?_
      refine va_get (D := g.1) (ci := 3) (v := .ref (ad 11)) (C := RX3) (T := TX3) (N := 30) hx hb hts in_X3 hown hK hP 0 rfl rfl 11 (by decide) (hts _ q1308) (fun _ h9 => h9) rfl dX3_nextToken_21 ?_
      refine lv_aload_n hx hb dX3_nextToken_24 rfl (lv_at hl 0 rfl) ?_
      refine va_get (D := g.1) (ci := 3) (v := .int (fi 13)) (C := RX3) (T := TX3) (N := 30) hx hb hts in_X3 hown hK hP 0 rfl rfl 13 (by decide) (hts _ q1310) (fun _ h9 => h9) rfl dX3_nextToken_25 ?_
      refine zti (hf13) ?_
      refine zald hx hb hK hP 10 0 rfl rfl (j := cu) (by omega) (by decide) dX3_nextToken_28 ?_
      refine zti (congrFun hc11 _) ?_
      refine zti (show (nF T) cu = nI (T cu) from rfl) ?_
      refine lv_goto (tgt := 34) hx hb dX3_nextToken_29 (by decide) ?_
      refine va_put (D := g.1) (ci := 3) (v := .int (nI (T cu))) (ty := .int) (C := RX3) (T := TX3) (N := 30) hx hb hts in_X3 tyX3 tyX3_ok nmX3 hown hK hP hD hS 0 rfl rfl 16 (by decide) (hts _ q1313) (fun _ h9 => h9) rfl (by decide +kernel) rfl rfl (Nat.le_of_ble_eq_true rfl) dX3_nextToken_34 (fun H locs hP hD hS => ?_)
      have hP : va_P g.1 zCL (mW g ad (va_up (va_up fi 14 (nI cu)) 16 (nI (T cu))) cn xl) _ := hP
      have hD : va_D (mA ad s.heap.size) (mW g ad (va_up (va_up fi 14 (nI cu)) 16 (nI (T cu))) cn xl) := hD
      refine lv_aload_n hx hb dX3_nextToken_37 rfl (lv_at hl 0 rfl) ?_
      refine lv_aload_n hx hb dX3_nextToken_38 rfl (lv_at hl 0 rfl) ?_
      refine va_get (D := g.1) (ci := 3) (v := .int (fi 13)) (C := RX3) (T := TX3) (N := 30) hx hb hts in_X3 hown hK hP 0 rfl rfl 13 (by decide) (hts _ q1310) (fun _ h9 => h9) rfl dX3_nextToken_39 ?_
      refine zti (hf13) ?_
      refine lv_aload_n hx hb dX3_nextToken_42 rfl (lv_at hl 0 rfl) ?_
      refine va_get (D := g.1) (ci := 3) (v := .int (fi 12)) (C := RX3) (T := TX3) (N := 30) hx hb hts in_X3 hown hK hP 0 rfl rfl 12 (by decide) (hts _ q1309) (fun _ h9 => h9) rfl dX3_nextToken_43 ?_
      refine zti (hf12) ?_
      refine zc_ne (tgt := 53) hx hb (by omega) (by omega) dX3_nextToken_46 (by decide) (fun c_46 => ?_) (fun c_46 => ?_)
      · refine lv_aload_n hx hb dX3_nextToken_53 rfl (lv_at hl 0 rfl) ?_
        refine va_get (D := g.1) (ci := 3) (v := .int (nI (T cu))) (C := RX3) (T := TX3) (N := 30) hx hb hts in_X3 hown hK hP 0 rfl rfl 16 (by decide) (hts _ q1313) (fun _ h9 => h9) rfl dX3_nextToken_54 ?_
        refine lv_i2l (v := lN (T cu)) hx hb dX3_nextToken_57 (nI_l (by omega)) ?_
        refine lv_ldc2 hx hb hown (hts _ q1434) dX3_nextToken_58 ?_
        refine ztl (show (97 : Int64) = lN 97 from rfl) ?_
        refine lv_ldc2 hx hb hown (hts _ q1435) dX3_nextToken_61 ?_
        refine ztl (show (122 : Int64) = lN 122 from rfl) ?_
        refine vp_callSi (W.runS (As := [.long (lN (T cu)), .long (lN 97), .long (lN 122)]) (rest := [.ref (ad 0)]) ⟨hx, hb, hml, hown, hts⟩ (m_X3_in l g (lN (T cu)) (lN 97) (lN 122)) (va_cwS 3 hts (lw_S q1397 q1398 q69 q1399) rfl rfl rfl hdS_X3_in ⟨Nat.le_of_ble_eq_true rfl, Nat.le_of_ble_eq_true rfl⟩) (zpreS hK hN trivial) rfl rfl hl.1 rfl (lv_room (Nat.le_of_ble_eq_true rfl)) dX3_nextToken_64 ⟨Nat.le_of_ble_eq_true rfl, Nat.le_of_ble_eq_true rfl⟩) (fun r_64 hr_64 => ?_)
        subst hr_64
        refine zti (zB_c (zlN3 (a := 97) (n := T cu) (b := 122) (by omega) (by omega) (by omega))) ?_
        refine zi_eqB (tgt := 74) hx hb dX3_nextToken_67 (by decide) (fun c_67 => ?_) (fun c_67 => ?_)
        · refine lv_aload_n hx hb dX3_nextToken_74 rfl (lv_at hl 0 rfl) ?_
          refine va_get (D := g.1) (ci := 3) (v := .int (nI (T cu))) (C := RX3) (T := TX3) (N := 30) hx hb hts in_X3 hown hK hP 0 rfl rfl 16 (by decide) (hts _ q1313) (fun _ h9 => h9) rfl dX3_nextToken_75 ?_
          refine lv_i2l (v := lN (T cu)) hx hb dX3_nextToken_78 (nI_l (by omega)) ?_
          refine lv_ldc2 hx hb hown (hts _ q1436) dX3_nextToken_79 ?_
          refine ztl (show (48 : Int64) = lN 48 from rfl) ?_
          refine lv_ldc2 hx hb hown (hts _ q1437) dX3_nextToken_82 ?_
          refine ztl (show (57 : Int64) = lN 57 from rfl) ?_
          refine vp_callSi (W.runS (As := [.long (lN (T cu)), .long (lN 48), .long (lN 57)]) (rest := [.ref (ad 0)]) ⟨hx, hb, hml, hown, hts⟩ (m_X3_in l g (lN (T cu)) (lN 48) (lN 57)) (va_cwS 3 hts (lw_S q1397 q1398 q69 q1399) rfl rfl rfl hdS_X3_in ⟨Nat.le_of_ble_eq_true rfl, Nat.le_of_ble_eq_true rfl⟩) (zpreS hK hN trivial) rfl rfl hl.1 rfl (lv_room (Nat.le_of_ble_eq_true rfl)) dX3_nextToken_85 ⟨Nat.le_of_ble_eq_true rfl, Nat.le_of_ble_eq_true rfl⟩) (fun r_85 hr_85 => ?_)
          subst hr_85
          refine zti (zB_c (zlN3 (a := 48) (n := T cu) (b := 57) (by omega) (by omega) (by omega))) ?_
          refine zi_eqB (tgt := 95) hx hb dX3_nextToken_88 (by decide) (fun c_88 => ?_) (fun c_88 => ?_)
          · refine lv_aload_n hx hb dX3_nextToken_95 rfl (lv_at hl 0 rfl) ?_
            refine va_get (D := g.1) (ci := 3) (v := .int (nI (T cu))) (C := RX3) (T := TX3) (N := 30) hx hb hts in_X3 hown hK hP 0 rfl rfl 16 (by decide) (hts _ q1313) (fun _ h9 => h9) rfl dX3_nextToken_96 ?_
            refine lv_bipush (v := nI 44) hx hb dX3_nextToken_99 (by decide) ?_
            refine zc_eq (tgt := 113) hx hb (by omega) (by omega) dX3_nextToken_101 (by decide) (fun c_101 => ?_) (fun c_101 => ?_)
            · refine lv_iconst (v := nI 4) hx hb dX3_nextToken_113 (by decide) ?_
              refine lv_goto (tgt := 118) hx hb dX3_nextToken_114 (by decide) ?_
              have hdg : ¬ tkd T n cu := fun z => by have h8 := z.2.1; have h9 := z.2.2; omega
              refine va_put (D := g.1) (ci := 3) (v := .int (nI 4)) (ty := .int) (C := RX3) (T := TX3) (N := 30) hx hb hts in_X3 tyX3 tyX3_ok nmX3 hown hK hP hD hS 0 rfl rfl 15 (by decide) (hts _ q1312) (fun _ h9 => h9) rfl (by decide +kernel) rfl rfl (Nat.le_of_ble_eq_true rfl) dX3_nextToken_118 (fun H locs hP hD hS => ?_)
              have hP : va_P g.1 zCL (mW g ad (va_up (va_up (va_up fi 14 (nI cu)) 15 (nI 4)) 16 (nI (T cu))) cn xl) _ := hP
              have hD : va_D (mA ad s.heap.size) (mW g ad (va_up (va_up (va_up fi 14 (nI cu)) 15 (nI 4)) 16 (nI (T cu))) cn xl) := hD
              refine lv_aload_n hx hb dX3_nextToken_121 rfl (lv_at hl 0 rfl) ?_
              refine lv_dup hx hb dX3_nextToken_122 rfl ?_
              refine va_get (D := g.1) (ci := 3) (v := .int (fi 13)) (C := RX3) (T := TX3) (N := 30) hx hb hts in_X3 hown hK hP 0 rfl rfl 13 (by decide) (hts _ q1310) (fun _ h9 => h9) rfl dX3_nextToken_123 ?_
              refine zti (hf13) ?_
              refine lv_aload_n hx hb dX3_nextToken_126 rfl (lv_at hl 0 rfl) ?_
              refine va_get (D := g.1) (ci := 3) (v := .int (fi 13)) (C := RX3) (T := TX3) (N := 30) hx hb hts in_X3 hown hK hP 0 rfl rfl 13 (by decide) (hts _ q1310) (fun _ h9 => h9) rfl dX3_nextToken_127 ?_
              refine zti (hf13) ?_
              refine lv_aload_n hx hb dX3_nextToken_130 rfl (lv_at hl 0 rfl) ?_
              refine va_get (D := g.1) (ci := 3) (v := .int (fi 12)) (C := RX3) (T := TX3) (N := 30) hx hb hts in_X3 hown hK hP 0 rfl rfl 12 (by decide) (hts _ q1309) (fun _ h9 => h9) rfl dX3_nextToken_131 ?_
              refine zti (hf12) ?_
              refine zc_ge (tgt := 141) hx hb (by omega) (by omega) dX3_nextToken_134 (by decide) (fun c_134 => ?_) (fun c_134 => ?_)
              · omega
              · refine lv_iconst (v := nI 1) hx hb dX3_nextToken_137 (by decide) ?_
                refine lv_goto (tgt := 142) hx hb dX3_nextToken_138 (by decide) ?_
                refine lv_iadd hx hb dX3_nextToken_142 ?_
                refine zti (nI_add cu 1) ?_
                refine va_put (D := g.1) (ci := 3) (v := .int (nI (cu + 1))) (ty := .int) (C := RX3) (T := TX3) (N := 30) hx hb hts in_X3 tyX3 tyX3_ok nmX3 hown hK hP hD hS 0 rfl rfl 13 (by decide) (hts _ q1310) (fun _ h9 => h9) rfl (by decide +kernel) rfl rfl (Nat.le_of_ble_eq_true rfl) dX3_nextToken_143 (fun H locs hP hD hS => ?_)
                have hP : va_P g.1 zCL (mW g ad (va_up (va_up (va_up (va_up fi 13 (nI (cu + 1))) 14 (nI cu)) 15 (nI 4)) 16 (nI (T cu))) cn xl) _ := hP
                have hD : va_D (mA ad s.heap.size) (mW g ad (va_up (va_up (va_up (va_up fi 13 (nI (cu + 1))) 14 (nI cu)) 15 (nI 4)) 16 (nI (T cu))) cn xl) := hD
                refine lv_aload_n hx hb dX3_nextToken_146 rfl (lv_at hl 0 rfl) ?_
                refine va_get (D := g.1) (ci := 3) (v := .int (nI 4)) (C := RX3) (T := TX3) (N := 30) hx hb hts in_X3 hown hK hP 0 rfl rfl 15 (by decide) (hts _ q1312) (fun _ h9 => h9) rfl dX3_nextToken_147 ?_
                refine lv_iconst (v := nI 3) hx hb dX3_nextToken_150 (by decide) ?_
                refine zc_ne (tgt := 277) hx hb (by omega) (by omega) dX3_nextToken_151 (by decide) (fun c_151 => ?_) (fun c_151 => ?_)
                · exact W.vret hx hb hr (fun t ht hW => ⟨⟨(va_up (va_up (va_up (va_up fi 13 (nI (cu + 1))) 14 (nI cu)) 15 (nI 4)) 16 (nI (T cu)), cn, xl), rfl, ⟨trivial, by rw [show tkE T n cu = cu + 1 from (zif_t hcn).trans (zif_f hdg), show tkV T n cu = nI (T cu) from (zif_t hcn).trans (zif_f hdg), show tkK T n cu = 4 from (zif_t hcn).trans ((zif_f hdg).trans ((zif_f (by omega)).trans (zif_t (by omega))))]⟩, by rw [ht]; exact hP, hD⟩, hS.F ht⟩) hS.2.2 dX3_nextToken_277
                · omega
            · refine lv_aload_n hx hb dX3_nextToken_104 rfl (lv_at hl 0 rfl) ?_
              refine va_get (D := g.1) (ci := 3) (v := .int (nI (T cu))) (C := RX3) (T := TX3) (N := 30) hx hb hts in_X3 hown hK hP 0 rfl rfl 16 (by decide) (hts _ q1313) (fun _ h9 => h9) rfl dX3_nextToken_105 ?_
              refine lv_bipush (v := nI 59) hx hb dX3_nextToken_108 (by decide) ?_
              refine zc_ne (tgt := 117) hx hb (by omega) (by omega) dX3_nextToken_110 (by decide) (fun c_110 => ?_) (fun c_110 => ?_)
              · refine lv_iconst (v := nI 0) hx hb dX3_nextToken_117 (by decide) ?_
                have hdg : ¬ tkd T n cu := fun z => by have h8 := z.2.1; have h9 := z.2.2; omega
                refine va_put (D := g.1) (ci := 3) (v := .int (nI 0)) (ty := .int) (C := RX3) (T := TX3) (N := 30) hx hb hts in_X3 tyX3 tyX3_ok nmX3 hown hK hP hD hS 0 rfl rfl 15 (by decide) (hts _ q1312) (fun _ h9 => h9) rfl (by decide +kernel) rfl rfl (Nat.le_of_ble_eq_true rfl) dX3_nextToken_118 (fun H locs hP hD hS => ?_)
                have hP : va_P g.1 zCL (mW g ad (va_up (va_up (va_up fi 14 (nI cu)) 15 (nI 0)) 16 (nI (T cu))) cn xl) _ := hP
                have hD : va_D (mA ad s.heap.size) (mW g ad (va_up (va_up (va_up fi 14 (nI cu)) 15 (nI 0)) 16 (nI (T cu))) cn xl) := hD
                refine lv_aload_n hx hb dX3_nextToken_121 rfl (lv_at hl 0 rfl) ?_
                refine lv_dup hx hb dX3_nextToken_122 rfl ?_
                refine va_get (D := g.1) (ci := 3) (v := .int (fi 13)) (C := RX3) (T := TX3) (N := 30) hx hb hts in_X3 hown hK hP 0 rfl rfl 13 (by decide) (hts _ q1310) (fun _ h9 => h9) rfl dX3_nextToken_123 ?_
                refine zti (hf13) ?_
                refine lv_aload_n hx hb dX3_nextToken_126 rfl (lv_at hl 0 rfl) ?_
                refine va_get (D := g.1) (ci := 3) (v := .int (fi 13)) (C := RX3) (T := TX3) (N := 30) hx hb hts in_X3 hown hK hP 0 rfl rfl 13 (by decide) (hts _ q1310) (fun _ h9 => h9) rfl dX3_nextToken_127 ?_
                refine zti (hf13) ?_
                refine lv_aload_n hx hb dX3_nextToken_130 rfl (lv_at hl 0 rfl) ?_
                refine va_get (D := g.1) (ci := 3) (v := .int (fi 12)) (C := RX3) (T := TX3) (N := 30) hx hb hts in_X3 hown hK hP 0 rfl rfl 12 (by decide) (hts _ q1309) (fun _ h9 => h9) rfl dX3_nextToken_131 ?_
                refine zti (hf12) ?_
                refine zc_ge (tgt := 141) hx hb (by omega) (by omega) dX3_nextToken_134 (by decide) (fun c_134 => ?_) (fun c_134 => ?_)
                · omega
                · refine lv_iconst (v := nI 1) hx hb dX3_nextToken_137 (by decide) ?_
                  refine lv_goto (tgt := 142) hx hb dX3_nextToken_138 (by decide) ?_
                  refine lv_iadd hx hb dX3_nextToken_142 ?_
                  refine zti (nI_add cu 1) ?_
                  refine va_put (D := g.1) (ci := 3) (v := .int (nI (cu + 1))) (ty := .int) (C := RX3) (T := TX3) (N := 30) hx hb hts in_X3 tyX3 tyX3_ok nmX3 hown hK hP hD hS 0 rfl rfl 13 (by decide) (hts _ q1310) (fun _ h9 => h9) rfl (by decide +kernel) rfl rfl (Nat.le_of_ble_eq_true rfl) dX3_nextToken_143 (fun H locs hP hD hS => ?_)
                  have hP : va_P g.1 zCL (mW g ad (va_up (va_up (va_up (va_up fi 13 (nI (cu + 1))) 14 (nI cu)) 15 (nI 0)) 16 (nI (T cu))) cn xl) _ := hP
                  have hD : va_D (mA ad s.heap.size) (mW g ad (va_up (va_up (va_up (va_up fi 13 (nI (cu + 1))) 14 (nI cu)) 15 (nI 0)) 16 (nI (T cu))) cn xl) := hD
                  refine lv_aload_n hx hb dX3_nextToken_146 rfl (lv_at hl 0 rfl) ?_
                  refine va_get (D := g.1) (ci := 3) (v := .int (nI 0)) (C := RX3) (T := TX3) (N := 30) hx hb hts in_X3 hown hK hP 0 rfl rfl 15 (by decide) (hts _ q1312) (fun _ h9 => h9) rfl dX3_nextToken_147 ?_
                  refine lv_iconst (v := nI 3) hx hb dX3_nextToken_150 (by decide) ?_
                  refine zc_ne (tgt := 277) hx hb (by omega) (by omega) dX3_nextToken_151 (by decide) (fun c_151 => ?_) (fun c_151 => ?_)
                  · exact W.vret hx hb hr (fun t ht hW => ⟨⟨(va_up (va_up (va_up (va_up fi 13 (nI (cu + 1))) 14 (nI cu)) 15 (nI 0)) 16 (nI (T cu)), cn, xl), rfl, ⟨trivial, by rw [show tkE T n cu = cu + 1 from (zif_t hcn).trans (zif_f hdg), show tkV T n cu = nI (T cu) from (zif_t hcn).trans (zif_f hdg), show tkK T n cu = 0 from (zif_t hcn).trans ((zif_f hdg).trans ((zif_f (by omega)).trans (zif_f (by omega))))]⟩, by rw [ht]; exact hP, hD⟩, hS.F ht⟩) hS.2.2 dX3_nextToken_277
                  · omega
              · refine lv_iconst (v := nI 4) hx hb dX3_nextToken_113 (by decide) ?_
                refine lv_goto (tgt := 118) hx hb dX3_nextToken_114 (by decide) ?_
                have hdg : ¬ tkd T n cu := fun z => by have h8 := z.2.1; have h9 := z.2.2; omega
                refine va_put (D := g.1) (ci := 3) (v := .int (nI 4)) (ty := .int) (C := RX3) (T := TX3) (N := 30) hx hb hts in_X3 tyX3 tyX3_ok nmX3 hown hK hP hD hS 0 rfl rfl 15 (by decide) (hts _ q1312) (fun _ h9 => h9) rfl (by decide +kernel) rfl rfl (Nat.le_of_ble_eq_true rfl) dX3_nextToken_118 (fun H locs hP hD hS => ?_)
                have hP : va_P g.1 zCL (mW g ad (va_up (va_up (va_up fi 14 (nI cu)) 15 (nI 4)) 16 (nI (T cu))) cn xl) _ := hP
                have hD : va_D (mA ad s.heap.size) (mW g ad (va_up (va_up (va_up fi 14 (nI cu)) 15 (nI 4)) 16 (nI (T cu))) cn xl) := hD
                refine lv_aload_n hx hb dX3_nextToken_121 rfl (lv_at hl 0 rfl) ?_
                refine lv_dup hx hb dX3_nextToken_122 rfl ?_
                refine va_get (D := g.1) (ci := 3) (v := .int (fi 13)) (C := RX3) (T := TX3) (N := 30) hx hb hts in_X3 hown hK hP 0 rfl rfl 13 (by decide) (hts _ q1310) (fun _ h9 => h9) rfl dX3_nextToken_123 ?_
                refine zti (hf13) ?_
                refine lv_aload_n hx hb dX3_nextToken_126 rfl (lv_at hl 0 rfl) ?_
                refine va_get (D := g.1) (ci := 3) (v := .int (fi 13)) (C := RX3) (T := TX3) (N := 30) hx hb hts in_X3 hown hK hP 0 rfl rfl 13 (by decide) (hts _ q1310) (fun _ h9 => h9) rfl dX3_nextToken_127 ?_
                refine zti (hf13) ?_
                refine lv_aload_n hx hb dX3_nextToken_130 rfl (lv_at hl 0 rfl) ?_
                refine va_get (D := g.1) (ci := 3) (v := .int (fi 12)) (C := RX3) (T := TX3) (N := 30) hx hb hts in_X3 hown hK hP 0 rfl rfl 12 (by decide) (hts _ q1309) (fun _ h9 => h9) rfl dX3_nextToken_131 ?_
                refine zti (hf12) ?_
                refine zc_ge (tgt := 141) hx hb (by omega) (by omega) dX3_nextToken_134 (by decide) (fun c_134 => ?_) (fun c_134 => ?_)
                · omega
                · refine lv_iconst (v := nI 1) hx hb dX3_nextToken_137 (by decide) ?_
                  refine lv_goto (tgt := 142) hx hb dX3_nextToken_138 (by decide) ?_
                  refine lv_iadd hx hb dX3_nextToken_142 ?_
                  refine zti (nI_add cu 1) ?_
                  refine va_put (D := g.1) (ci := 3) (v := .int (nI (cu + 1))) (ty := .int) (C := RX3) (T := TX3) (N := 30) hx hb hts in_X3 tyX3 tyX3_ok nmX3 hown hK hP hD hS 0 rfl rfl 13 (by decide) (hts _ q1310) (fun _ h9 => h9) rfl (by decide +kernel) rfl rfl (Nat.le_of_ble_eq_true rfl) dX3_nextToken_143 (fun H locs hP hD hS => ?_)
                  have hP : va_P g.1 zCL (mW g ad (va_up (va_up (va_up (va_up fi 13 (nI (cu + 1))) 14 (nI cu)) 15 (nI 4)) 16 (nI (T cu))) cn xl) _ := hP
                  have hD : va_D (mA ad s.heap.size) (mW g ad (va_up (va_up (va_up (va_up fi 13 (nI (cu + 1))) 14 (nI cu)) 15 (nI 4)) 16 (nI (T cu))) cn xl) := hD
                  refine lv_aload_n hx hb dX3_nextToken_146 rfl (lv_at hl 0 rfl) ?_
                  refine va_get (D := g.1) (ci := 3) (v := .int (nI 4)) (C := RX3) (T := TX3) (N := 30) hx hb hts in_X3 hown hK hP 0 rfl rfl 15 (by decide) (hts _ q1312) (fun _ h9 => h9) rfl dX3_nextToken_147 ?_
                  refine lv_iconst (v := nI 3) hx hb dX3_nextToken_150 (by decide) ?_
                  refine zc_ne (tgt := 277) hx hb (by omega) (by omega) dX3_nextToken_151 (by decide) (fun c_151 => ?_) (fun c_151 => ?_)
                  · exact W.vret hx hb hr (fun t ht hW => ⟨⟨(va_up (va_up (va_up (va_up fi 13 (nI (cu + 1))) 14 (nI cu)) 15 (nI 4)) 16 (nI (T cu)), cn, xl), rfl, ⟨trivial, by rw [show tkE T n cu = cu + 1 from (zif_t hcn).trans (zif_f hdg), show tkV T n cu = nI (T cu) from (zif_t hcn).trans (zif_f hdg), show tkK T n cu = 4 from (zif_t hcn).trans ((zif_f hdg).trans ((zif_f (by omega)).trans (zif_t (by omega))))]⟩, by rw [ht]; exact hP, hD⟩, hS.F ht⟩) hS.2.2 dX3_nextToken_277
                  · omega
          · refine lv_iconst (v := nI 3) hx hb dX3_nextToken_91 (by decide) ?_
            refine lv_goto (tgt := 118) hx hb dX3_nextToken_92 (by decide) ?_
            have hdg : tkd T n cu := ⟨hcn, by omega, by omega⟩
            have htl := tlen_at (T := T) (n := n) (s := cu)
            have htp := tlen_pos hdg
            have htn := htl.2.2 (by omega)
            refine va_put (D := g.1) (ci := 3) (v := .int (nI 3)) (ty := .int) (C := RX3) (T := TX3) (N := 30) hx hb hts in_X3 tyX3 tyX3_ok nmX3 hown hK hP hD hS 0 rfl rfl 15 (by decide) (hts _ q1312) (fun _ h9 => h9) rfl (by decide +kernel) rfl rfl (Nat.le_of_ble_eq_true rfl) dX3_nextToken_118 (fun H locs hP hD hS => ?_)
            have hP : va_P g.1 zCL (mW g ad (va_up (va_up (va_up fi 14 (nI cu)) 15 (nI 3)) 16 (nI (T cu))) cn xl) _ := hP
            have hD : va_D (mA ad s.heap.size) (mW g ad (va_up (va_up (va_up fi 14 (nI cu)) 15 (nI 3)) 16 (nI (T cu))) cn xl) := hD
            refine lv_aload_n hx hb dX3_nextToken_121 rfl (lv_at hl 0 rfl) ?_
            refine lv_dup hx hb dX3_nextToken_122 rfl ?_
            refine va_get (D := g.1) (ci := 3) (v := .int (fi 13)) (C := RX3) (T := TX3) (N := 30) hx hb hts in_X3 hown hK hP 0 rfl rfl 13 (by decide) (hts _ q1310) (fun _ h9 => h9) rfl dX3_nextToken_123 ?_
            refine zti (hf13) ?_
            refine lv_aload_n hx hb dX3_nextToken_126 rfl (lv_at hl 0 rfl) ?_
            refine va_get (D := g.1) (ci := 3) (v := .int (fi 13)) (C := RX3) (T := TX3) (N := 30) hx hb hts in_X3 hown hK hP 0 rfl rfl 13 (by decide) (hts _ q1310) (fun _ h9 => h9) rfl dX3_nextToken_127 ?_
            refine zti (hf13) ?_
            refine lv_aload_n hx hb dX3_nextToken_130 rfl (lv_at hl 0 rfl) ?_
            refine va_get (D := g.1) (ci := 3) (v := .int (fi 12)) (C := RX3) (T := TX3) (N := 30) hx hb hts in_X3 hown hK hP 0 rfl rfl 12 (by decide) (hts _ q1309) (fun _ h9 => h9) rfl dX3_nextToken_131 ?_
            refine zti (hf12) ?_
            refine zc_ge (tgt := 141) hx hb (by omega) (by omega) dX3_nextToken_134 (by decide) (fun c_134 => ?_) (fun c_134 => ?_)
            · omega
            · refine lv_iconst (v := nI 1) hx hb dX3_nextToken_137 (by decide) ?_
              refine lv_goto (tgt := 142) hx hb dX3_nextToken_138 (by decide) ?_
              refine lv_iadd hx hb dX3_nextToken_142 ?_
              refine zti (nI_add cu 1) ?_
              refine va_put (D := g.1) (ci := 3) (v := .int (nI (cu + 1))) (ty := .int) (C := RX3) (T := TX3) (N := 30) hx hb hts in_X3 tyX3 tyX3_ok nmX3 hown hK hP hD hS 0 rfl rfl 13 (by decide) (hts _ q1310) (fun _ h9 => h9) rfl (by decide +kernel) rfl rfl (Nat.le_of_ble_eq_true rfl) dX3_nextToken_143 (fun H locs hP hD hS => ?_)
              have hP : va_P g.1 zCL (mW g ad (va_up (va_up (va_up (va_up fi 13 (nI (cu + 1))) 14 (nI cu)) 15 (nI 3)) 16 (nI (T cu))) cn xl) _ := hP
              have hD : va_D (mA ad s.heap.size) (mW g ad (va_up (va_up (va_up (va_up fi 13 (nI (cu + 1))) 14 (nI cu)) 15 (nI 3)) 16 (nI (T cu))) cn xl) := hD
              refine lv_aload_n hx hb dX3_nextToken_146 rfl (lv_at hl 0 rfl) ?_
              refine va_get (D := g.1) (ci := 3) (v := .int (nI 3)) (C := RX3) (T := TX3) (N := 30) hx hb hts in_X3 hown hK hP 0 rfl rfl 15 (by decide) (hts _ q1312) (fun _ h9 => h9) rfl dX3_nextToken_147 ?_
              refine lv_iconst (v := nI 3) hx hb dX3_nextToken_150 (by decide) ?_
              refine zc_ne (tgt := 277) hx hb (by omega) (by omega) dX3_nextToken_151 (by decide) (fun c_151 => ?_) (fun c_151 => ?_)
              · omega
              · refine lv_aload_n hx hb dX3_nextToken_154 rfl (lv_at hl 0 rfl) ?_
                refine lv_dup hx hb dX3_nextToken_155 rfl ?_
                refine va_get (D := g.1) (ci := 3) (v := .int (nI (T cu))) (C := RX3) (T := TX3) (N := 30) hx hb hts in_X3 hown hK hP 0 rfl rfl 16 (by decide) (hts _ q1313) (fun _ h9 => h9) rfl dX3_nextToken_156 ?_
                refine lv_bipush (v := nI 48) hx hb dX3_nextToken_159 (by decide) ?_
                refine lv_isub hx hb dX3_nextToken_161 ?_
                refine zti (pk_sub (a := T cu) (b := 48) (by omega)) ?_
                refine va_put (D := g.1) (ci := 3) (v := .int (nI (T cu - 48))) (ty := .int) (C := RX3) (T := TX3) (N := 30) hx hb hts in_X3 tyX3 tyX3_ok nmX3 hown hK hP hD hS 0 rfl rfl 16 (by decide) (hts _ q1313) (fun _ h9 => h9) rfl (by decide +kernel) rfl rfl (Nat.le_of_ble_eq_true rfl) dX3_nextToken_162 (fun H locs hP hD hS => ?_)
                have hP : va_P g.1 zCL (mW g ad (va_up (va_up (va_up (va_up fi 13 (nI (cu + 1))) 14 (nI cu)) 15 (nI 3)) 16 (nI (T cu - 48))) cn xl) _ := hP
                have hD : va_D (mA ad s.heap.size) (mW g ad (va_up (va_up (va_up (va_up fi 13 (nI (cu + 1))) 14 (nI cu)) 15 (nI 3)) 16 (nI (T cu - 48))) cn xl) := hD
                rw [show nI (T cu - 48) = nI (tval T cu (0 + 1)) from congrArg nI (zif_t rfl).symm] at hP hD
                have hP : va_P g.1 zCL (mW g ad (va_up (va_up (va_up (va_up fi 13 (nI (cu + 1 + 0))) 14 (nI cu)) 15 (nI 3)) 16 (nI (tval T cu (0 + 1)))) cn xl) _ := hP
                have hD : va_D (mA ad s.heap.size) (mW g ad (va_up (va_up (va_up (va_up fi 13 (nI (cu + 1 + 0))) 14 (nI cu)) 15 (nI 3)) 16 (nI (tval T cu (0 + 1)))) cn xl) := hD
                have htv : ∀ k, tval T cu k ≤ 10 * (T cu - 48) + (T (cu + 1) - 48) + (T cu - 48) := fun k => zif_ind (fun z => z ≤ _) (by omega) (by omega)
                have hTc1 := hT (cu + 1)
                refine zloopW (head := 165) (tlen T n cu - 1) (fun k H locs cells slots ls => cells = 0 ∧ slots = 0 ∧ va_P g.1 zCL (mW g ad (va_up (va_up (va_up (va_up fi 13 (nI (cu + 1 + k))) 14 (nI cu)) 15 (nI 3)) 16 (nI (tval T cu (k + 1)))) cn xl) H ∧ va_D (mA ad s.heap.size) (mW g ad (va_up (va_up (va_up (va_up fi 13 (nI (cu + 1 + k))) 14 (nI cu)) 15 (nI 3)) 16 (nI (tval T cu (k + 1)))) cn xl) ∧ va_S (mA ad s.heap.size) s.heap H locs ∧ lv_has ls 1 [(0, .ref (ad 0))] ∧ True) (fun k hv_k ih_165 H locs cells slots ls hI => ?_) 0 (Nat.zero_le _) ?_
                · obtain ⟨rfl, rfl, hP, hD, hS, hl, hI_165⟩ := hI
                  refine lv_aload_n hx hb dX3_nextToken_165 rfl (lv_at hl 0 rfl) ?_
                  refine va_get (D := g.1) (ci := 3) (v := .int (nI (cu + 1 + k))) (C := RX3) (T := TX3) (N := 30) hx hb hts in_X3 hown hK hP 0 rfl rfl 13 (by decide) (hts _ q1310) (fun _ h9 => h9) rfl dX3_nextToken_166 ?_
                  refine lv_aload_n hx hb dX3_nextToken_169 rfl (lv_at hl 0 rfl) ?_
                  refine va_get (D := g.1) (ci := 3) (v := .int (fi 12)) (C := RX3) (T := TX3) (N := 30) hx hb hts in_X3 hown hK hP 0 rfl rfl 12 (by decide) (hts _ q1309) (fun _ h9 => h9) rfl dX3_nextToken_170 ?_
                  refine zti (hf12) ?_
                  refine zc_ge (tgt := 255) hx hb (by omega) (by omega) dX3_nextToken_173 (by decide) (fun c_173 => ?_) (fun c_173 => ?_)
                  · obtain hk9 : k + 1 = tlen T n cu := by
                      by_cases q : k + 1 < tlen T n cu
                      · have h9 := htl.1 (k + 1) q
                        rw [← Nat.add_assoc, Nat.add_right_comm] at h9
                        have := h9.1; omega
                      · omega
                    rw [hk9, show cu + 1 + k = cu + tlen T n cu by omega] at hP hD
                    have hP : va_P g.1 zCL (mW g ad (va_up (va_up (va_up (va_up fi 13 (nI (cu + tlen T n cu))) 14 (nI cu)) 15 (nI 3)) 16 (nI (tval T cu (tlen T n cu)))) cn xl) _ := hP
                    have hD : va_D (mA ad s.heap.size) (mW g ad (va_up (va_up (va_up (va_up fi 13 (nI (cu + tlen T n cu))) 14 (nI cu)) 15 (nI 3)) 16 (nI (tval T cu (tlen T n cu)))) cn xl) := hD
                    refine lv_aload_n hx hb dX3_nextToken_255 rfl (lv_at hl 0 rfl) ?_
                    refine lv_aload_n hx hb dX3_nextToken_256 rfl (lv_at hl 0 rfl) ?_
                    refine va_get (D := g.1) (ci := 3) (v := .int (nI (cu + tlen T n cu))) (C := RX3) (T := TX3) (N := 30) hx hb hts in_X3 hown hK hP 0 rfl rfl 13 (by decide) (hts _ q1310) (fun _ h9 => h9) rfl dX3_nextToken_257 ?_
                    refine lv_aload_n hx hb dX3_nextToken_260 rfl (lv_at hl 0 rfl) ?_
                    refine va_get (D := g.1) (ci := 3) (v := .int (nI cu)) (C := RX3) (T := TX3) (N := 30) hx hb hts in_X3 hown hK hP 0 rfl rfl 14 (by decide) (hts _ q1311) (fun _ h9 => h9) rfl dX3_nextToken_261 ?_
                    refine lv_isub hx hb dX3_nextToken_264 ?_
                    refine zti (pk_sub (a := cu + tlen T n cu) (b := cu) (by omega)) ?_
                    refine lv_iconst (v := nI 2) hx hb dX3_nextToken_265 (by decide) ?_
                    refine zc_le (tgt := 273) hx hb (by omega) (by omega) dX3_nextToken_266 (by decide) (fun c_266 => ?_) (fun c_266 => ?_)
                    · refine lv_iconst (v := nI 3) hx hb dX3_nextToken_273 (by decide) ?_
                      refine va_put (D := g.1) (ci := 3) (v := .int (nI 3)) (ty := .int) (C := RX3) (T := TX3) (N := 30) hx hb hts in_X3 tyX3 tyX3_ok nmX3 hown hK hP hD hS 0 rfl rfl 15 (by decide) (hts _ q1312) (fun _ h9 => h9) rfl (by decide +kernel) rfl rfl (Nat.le_of_ble_eq_true rfl) dX3_nextToken_274 (fun H locs hP hD hS => ?_)
                      have hP : va_P g.1 zCL (mW g ad (va_up (va_up (va_up (va_up fi 13 (nI (cu + tlen T n cu))) 14 (nI cu)) 15 (nI 3)) 16 (nI (tval T cu (tlen T n cu)))) cn xl) _ := hP
                      have hD : va_D (mA ad s.heap.size) (mW g ad (va_up (va_up (va_up (va_up fi 13 (nI (cu + tlen T n cu))) 14 (nI cu)) 15 (nI 3)) 16 (nI (tval T cu (tlen T n cu)))) cn xl) := hD
                      exact W.vret hx hb hr (fun t ht hW => ⟨⟨(va_up (va_up (va_up (va_up fi 13 (nI (cu + tlen T n cu))) 14 (nI cu)) 15 (nI 3)) 16 (nI (tval T cu (tlen T n cu))), cn, xl), rfl, ⟨trivial, by rw [show tkE T n cu = cu + tlen T n cu from (zif_t hcn).trans (zif_t hdg), show tkV T n cu = nI (tval T cu (tlen T n cu)) from (zif_t hcn).trans (zif_t hdg), show tkK T n cu = 3 from (zif_t hcn).trans ((zif_t hdg).trans (zif_f (by omega)))]⟩, by rw [ht]; exact hP, hD⟩, hS.F ht⟩) hS.2.2 dX3_nextToken_277
                    · refine lv_iconst (v := nI 0) hx hb dX3_nextToken_269 (by decide) ?_
                      refine lv_goto (tgt := 274) hx hb dX3_nextToken_270 (by decide) ?_
                      refine va_put (D := g.1) (ci := 3) (v := .int (nI 0)) (ty := .int) (C := RX3) (T := TX3) (N := 30) hx hb hts in_X3 tyX3 tyX3_ok nmX3 hown hK hP hD hS 0 rfl rfl 15 (by decide) (hts _ q1312) (fun _ h9 => h9) rfl (by decide +kernel) rfl rfl (Nat.le_of_ble_eq_true rfl) dX3_nextToken_274 (fun H locs hP hD hS => ?_)
                      have hP : va_P g.1 zCL (mW g ad (va_up (va_up (va_up (va_up fi 13 (nI (cu + tlen T n cu))) 14 (nI cu)) 15 (nI 0)) 16 (nI (tval T cu (tlen T n cu)))) cn xl) _ := hP
                      have hD : va_D (mA ad s.heap.size) (mW g ad (va_up (va_up (va_up (va_up fi 13 (nI (cu + tlen T n cu))) 14 (nI cu)) 15 (nI 0)) 16 (nI (tval T cu (tlen T n cu)))) cn xl) := hD
                      exact W.vret hx hb hr (fun t ht hW => ⟨⟨(va_up (va_up (va_up (va_up fi 13 (nI (cu + tlen T n cu))) 14 (nI cu)) 15 (nI 0)) 16 (nI (tval T cu (tlen T n cu))), cn, xl), rfl, ⟨trivial, by rw [show tkE T n cu = cu + tlen T n cu from (zif_t hcn).trans (zif_t hdg), show tkV T n cu = nI (tval T cu (tlen T n cu)) from (zif_t hcn).trans (zif_t hdg), show tkK T n cu = 0 from (zif_t hcn).trans ((zif_t hdg).trans (zif_t (by omega)))]⟩, by rw [ht]; exact hP, hD⟩, hS.F ht⟩) hS.2.2 dX3_nextToken_277
                  · have hTk0 := hT (cu + 1 + k)
                    refine lv_aload_n hx hb dX3_nextToken_176 rfl (lv_at hl 0 rfl) ?_
                    refine va_get (D := g.1) (ci := 3) (v := .ref (ad 11)) (C := RX3) (T := TX3) (N := 30) hx hb hts in_X3 hown hK hP 0 rfl rfl 11 (by decide) (hts _ q1308) (fun _ h9 => h9) rfl dX3_nextToken_177 ?_
                    refine lv_aload_n hx hb dX3_nextToken_180 rfl (lv_at hl 0 rfl) ?_
                    refine va_get (D := g.1) (ci := 3) (v := .int (nI (cu + 1 + k))) (C := RX3) (T := TX3) (N := 30) hx hb hts in_X3 hown hK hP 0 rfl rfl 13 (by decide) (hts _ q1310) (fun _ h9 => h9) rfl dX3_nextToken_181 ?_
                    refine zald hx hb hK hP 10 0 rfl rfl (j := cu + 1 + k) (by omega) (by decide) dX3_nextToken_184 ?_
                    refine zti (congrFun hc11 _) ?_
                    refine zti (show (nF T) (cu + 1 + k) = nI (T (cu + 1 + k)) from rfl) ?_
                    refine lv_i2l (v := lN (T (cu + 1 + k))) hx hb dX3_nextToken_185 (nI_l (by omega)) ?_
                    refine lv_ldc2 hx hb hown (hts _ q1436) dX3_nextToken_186 ?_
                    refine ztl (show (48 : Int64) = lN 48 from rfl) ?_
                    refine lv_ldc2 hx hb hown (hts _ q1437) dX3_nextToken_189 ?_
                    refine ztl (show (57 : Int64) = lN 57 from rfl) ?_
                    refine vp_callSi (W.runS (As := [.long (lN (T (cu + 1 + k))), .long (lN 48), .long (lN 57)]) (rest := []) ⟨hx, hb, hml, hown, hts⟩ (m_X3_in l g (lN (T (cu + 1 + k))) (lN 48) (lN 57)) (va_cwS 3 hts (lw_S q1397 q1398 q69 q1399) rfl rfl rfl hdS_X3_in ⟨Nat.le_of_ble_eq_true rfl, Nat.le_of_ble_eq_true rfl⟩) (zpreS hK hN trivial) rfl rfl hl.1 rfl (lv_room (Nat.le_of_ble_eq_true rfl)) dX3_nextToken_192 ⟨Nat.le_of_ble_eq_true rfl, Nat.le_of_ble_eq_true rfl⟩) (fun r_192 hr_192 => ?_)
                    subst hr_192
                    refine zti (zB_c (zlN3 (a := 48) (n := T (cu + 1 + k)) (b := 57) (by omega) (by omega) (by omega))) ?_
                    refine zi_eqB (tgt := 255) hx hb dX3_nextToken_195 (by decide) (fun c_195 => ?_) (fun c_195 => ?_)
                    · obtain hk9 : k + 1 = tlen T n cu := by
                        by_cases q : k + 1 < tlen T n cu
                        · have h9 := htl.1 (k + 1) q
                          rw [← Nat.add_assoc, Nat.add_right_comm] at h9
                          exact absurd ⟨h9.2.1, h9.2.2⟩ c_195
                        · omega
                      rw [hk9, show cu + 1 + k = cu + tlen T n cu by omega] at hP hD
                      have hP : va_P g.1 zCL (mW g ad (va_up (va_up (va_up (va_up fi 13 (nI (cu + tlen T n cu))) 14 (nI cu)) 15 (nI 3)) 16 (nI (tval T cu (tlen T n cu)))) cn xl) _ := hP
                      have hD : va_D (mA ad s.heap.size) (mW g ad (va_up (va_up (va_up (va_up fi 13 (nI (cu + tlen T n cu))) 14 (nI cu)) 15 (nI 3)) 16 (nI (tval T cu (tlen T n cu)))) cn xl) := hD
                      refine lv_aload_n hx hb dX3_nextToken_255 rfl (lv_at hl 0 rfl) ?_
                      refine lv_aload_n hx hb dX3_nextToken_256 rfl (lv_at hl 0 rfl) ?_
                      refine va_get (D := g.1) (ci := 3) (v := .int (nI (cu + tlen T n cu))) (C := RX3) (T := TX3) (N := 30) hx hb hts in_X3 hown hK hP 0 rfl rfl 13 (by decide) (hts _ q1310) (fun _ h9 => h9) rfl dX3_nextToken_257 ?_
                      refine lv_aload_n hx hb dX3_nextToken_260 rfl (lv_at hl 0 rfl) ?_
                      refine va_get (D := g.1) (ci := 3) (v := .int (nI cu)) (C := RX3) (T := TX3) (N := 30) hx hb hts in_X3 hown hK hP 0 rfl rfl 14 (by decide) (hts _ q1311) (fun _ h9 => h9) rfl dX3_nextToken_261 ?_
                      refine lv_isub hx hb dX3_nextToken_264 ?_
                      refine zti (pk_sub (a := cu + tlen T n cu) (b := cu) (by omega)) ?_
                      refine lv_iconst (v := nI 2) hx hb dX3_nextToken_265 (by decide) ?_
                      refine zc_le (tgt := 273) hx hb (by omega) (by omega) dX3_nextToken_266 (by decide) (fun c_266 => ?_) (fun c_266 => ?_)
                      · refine lv_iconst (v := nI 3) hx hb dX3_nextToken_273 (by decide) ?_
                        refine va_put (D := g.1) (ci := 3) (v := .int (nI 3)) (ty := .int) (C := RX3) (T := TX3) (N := 30) hx hb hts in_X3 tyX3 tyX3_ok nmX3 hown hK hP hD hS 0 rfl rfl 15 (by decide) (hts _ q1312) (fun _ h9 => h9) rfl (by decide +kernel) rfl rfl (Nat.le_of_ble_eq_true rfl) dX3_nextToken_274 (fun H locs hP hD hS => ?_)
                        have hP : va_P g.1 zCL (mW g ad (va_up (va_up (va_up (va_up fi 13 (nI (cu + tlen T n cu))) 14 (nI cu)) 15 (nI 3)) 16 (nI (tval T cu (tlen T n cu)))) cn xl) _ := hP
                        have hD : va_D (mA ad s.heap.size) (mW g ad (va_up (va_up (va_up (va_up fi 13 (nI (cu + tlen T n cu))) 14 (nI cu)) 15 (nI 3)) 16 (nI (tval T cu (tlen T n cu)))) cn xl) := hD
                        exact W.vret hx hb hr (fun t ht hW => ⟨⟨(va_up (va_up (va_up (va_up fi 13 (nI (cu + tlen T n cu))) 14 (nI cu)) 15 (nI 3)) 16 (nI (tval T cu (tlen T n cu))), cn, xl), rfl, ⟨trivial, by rw [show tkE T n cu = cu + tlen T n cu from (zif_t hcn).trans (zif_t hdg), show tkV T n cu = nI (tval T cu (tlen T n cu)) from (zif_t hcn).trans (zif_t hdg), show tkK T n cu = 3 from (zif_t hcn).trans ((zif_t hdg).trans (zif_f (by omega)))]⟩, by rw [ht]; exact hP, hD⟩, hS.F ht⟩) hS.2.2 dX3_nextToken_277
                      · refine lv_iconst (v := nI 0) hx hb dX3_nextToken_269 (by decide) ?_
                        refine lv_goto (tgt := 274) hx hb dX3_nextToken_270 (by decide) ?_
                        refine va_put (D := g.1) (ci := 3) (v := .int (nI 0)) (ty := .int) (C := RX3) (T := TX3) (N := 30) hx hb hts in_X3 tyX3 tyX3_ok nmX3 hown hK hP hD hS 0 rfl rfl 15 (by decide) (hts _ q1312) (fun _ h9 => h9) rfl (by decide +kernel) rfl rfl (Nat.le_of_ble_eq_true rfl) dX3_nextToken_274 (fun H locs hP hD hS => ?_)
                        have hP : va_P g.1 zCL (mW g ad (va_up (va_up (va_up (va_up fi 13 (nI (cu + tlen T n cu))) 14 (nI cu)) 15 (nI 0)) 16 (nI (tval T cu (tlen T n cu)))) cn xl) _ := hP
                        have hD : va_D (mA ad s.heap.size) (mW g ad (va_up (va_up (va_up (va_up fi 13 (nI (cu + tlen T n cu))) 14 (nI cu)) 15 (nI 0)) 16 (nI (tval T cu (tlen T n cu)))) cn xl) := hD
                        exact W.vret hx hb hr (fun t ht hW => ⟨⟨(va_up (va_up (va_up (va_up fi 13 (nI (cu + tlen T n cu))) 14 (nI cu)) 15 (nI 0)) 16 (nI (tval T cu (tlen T n cu))), cn, xl), rfl, ⟨trivial, by rw [show tkE T n cu = cu + tlen T n cu from (zif_t hcn).trans (zif_t hdg), show tkV T n cu = nI (tval T cu (tlen T n cu)) from (zif_t hcn).trans (zif_t hdg), show tkK T n cu = 0 from (zif_t hcn).trans ((zif_t hdg).trans (zif_t (by omega)))]⟩, by rw [ht]; exact hP, hD⟩, hS.F ht⟩) hS.2.2 dX3_nextToken_277
                    · refine lv_aload_n hx hb dX3_nextToken_198 rfl (lv_at hl 0 rfl) ?_
                      have hd9 : k + 1 < tlen T n cu := (tlen_lt (by omega)).mp (by rw [show cu + (k + 1) = cu + 1 + k by omega]; exact ⟨by omega, c_195⟩)
                      have hTk := hT (cu + 1 + k)
                      have htk := htv (k + 1)
                      refine zjoin (ls := ls) (α := Int32) (fun v9 => v9 = nI (tval T cu (k + 1 + 1))) (fun v9 => .int v9 :: [.ref (ad 0)]) 239 (fun v9 hv => ?_) (fun jn_199 => ?_)
                      · subst hv
                        refine va_put (D := g.1) (ci := 3) (v := .int (nI (tval T cu (k + 1 + 1)))) (ty := .int) (C := RX3) (T := TX3) (N := 30) hx hb hts in_X3 tyX3 tyX3_ok nmX3 hown hK hP hD hS 0 rfl rfl 16 (by decide) (hts _ q1313) (fun _ h9 => h9) rfl (by decide +kernel) rfl rfl (Nat.le_of_ble_eq_true rfl) dX3_nextToken_239 (fun H locs hP hD hS => ?_)
                        have hP : va_P g.1 zCL (mW g ad (va_up (va_up (va_up (va_up fi 13 (nI (cu + 1 + k))) 14 (nI cu)) 15 (nI 3)) 16 (nI (tval T cu (k + 1 + 1)))) cn xl) _ := hP
                        have hD : va_D (mA ad s.heap.size) (mW g ad (va_up (va_up (va_up (va_up fi 13 (nI (cu + 1 + k))) 14 (nI cu)) 15 (nI 3)) 16 (nI (tval T cu (k + 1 + 1)))) cn xl) := hD
                        refine lv_aload_n hx hb dX3_nextToken_242 rfl (lv_at hl 0 rfl) ?_
                        refine lv_dup hx hb dX3_nextToken_243 rfl ?_
                        refine va_get (D := g.1) (ci := 3) (v := .int (nI (cu + 1 + k))) (C := RX3) (T := TX3) (N := 30) hx hb hts in_X3 hown hK hP 0 rfl rfl 13 (by decide) (hts _ q1310) (fun _ h9 => h9) rfl dX3_nextToken_244 ?_
                        refine lv_iconst (v := nI 1) hx hb dX3_nextToken_247 (by decide) ?_
                        refine lv_iadd hx hb dX3_nextToken_248 ?_
                        refine zti (nI_add (cu + 1 + k) 1) ?_
                        refine va_put (D := g.1) (ci := 3) (v := .int (nI (cu + 1 + k + 1))) (ty := .int) (C := RX3) (T := TX3) (N := 30) hx hb hts in_X3 tyX3 tyX3_ok nmX3 hown hK hP hD hS 0 rfl rfl 13 (by decide) (hts _ q1310) (fun _ h9 => h9) rfl (by decide +kernel) rfl rfl (Nat.le_of_ble_eq_true rfl) dX3_nextToken_249 (fun H locs hP hD hS => ?_)
                        have hP : va_P g.1 zCL (mW g ad (va_up (va_up (va_up (va_up fi 13 (nI (cu + 1 + k + 1))) 14 (nI cu)) 15 (nI 3)) 16 (nI (tval T cu (k + 1 + 1)))) cn xl) _ := hP
                        have hD : va_D (mA ad s.heap.size) (mW g ad (va_up (va_up (va_up (va_up fi 13 (nI (cu + 1 + k + 1))) 14 (nI cu)) 15 (nI 3)) 16 (nI (tval T cu (k + 1 + 1)))) cn xl) := hD
                        refine lv_goto (tgt := 165) hx hb dX3_nextToken_252 (by decide) ?_
                        have hJ : True := trivial
                        exact ih_165 (by omega) _ _ _ _ _ ⟨rfl, rfl, hP, hD, hS, lv_sub hl [0] rfl, hJ⟩
                      · refine lv_aload_n hx hb dX3_nextToken_199 rfl (lv_at hl 0 rfl) ?_
                        refine va_get (D := g.1) (ci := 3) (v := .int (nI (cu + 1 + k))) (C := RX3) (T := TX3) (N := 30) hx hb hts in_X3 hown hK hP 0 rfl rfl 13 (by decide) (hts _ q1310) (fun _ h9 => h9) rfl dX3_nextToken_200 ?_
                        refine lv_aload_n hx hb dX3_nextToken_203 rfl (lv_at hl 0 rfl) ?_
                        refine va_get (D := g.1) (ci := 3) (v := .int (nI cu)) (C := RX3) (T := TX3) (N := 30) hx hb hts in_X3 hown hK hP 0 rfl rfl 14 (by decide) (hts _ q1311) (fun _ h9 => h9) rfl dX3_nextToken_204 ?_
                        refine lv_isub hx hb dX3_nextToken_207 ?_
                        refine zti (pk_sub (a := cu + 1 + k) (b := cu) (by omega)) ?_
                        refine lv_iconst (v := nI 2) hx hb dX3_nextToken_208 (by decide) ?_
                        refine zc_ge (tgt := 235) hx hb (by omega) (by omega) dX3_nextToken_209 (by decide) (fun c_209 => ?_) (fun c_209 => ?_)
                        · refine lv_aload_n hx hb dX3_nextToken_235 rfl (lv_at hl 0 rfl) ?_
                          refine va_get (D := g.1) (ci := 3) (v := .int (nI (tval T cu (k + 1)))) (C := RX3) (T := TX3) (N := 30) hx hb hts in_X3 hown hK hP 0 rfl rfl 16 (by decide) (hts _ q1313) (fun _ h9 => h9) rfl dX3_nextToken_236 ?_
                          exact jn_199 _ ((congrArg nI (show tval T cu (k + 1 + 1) = tval T cu (k + 1) from by exact tval_k (by omega))).symm)
                        · refine lv_bipush (v := nI 10) hx hb dX3_nextToken_212 (by decide) ?_
                          refine lv_aload_n hx hb dX3_nextToken_214 rfl (lv_at hl 0 rfl) ?_
                          refine va_get (D := g.1) (ci := 3) (v := .int (nI (tval T cu (k + 1)))) (C := RX3) (T := TX3) (N := 30) hx hb hts in_X3 hown hK hP 0 rfl rfl 16 (by decide) (hts _ q1313) (fun _ h9 => h9) rfl dX3_nextToken_215 ?_
                          refine lv_imul hx hb dX3_nextToken_218 ?_
                          refine zti (pk_mul 10 (tval T cu (k + 1))) ?_
                          refine lv_aload_n hx hb dX3_nextToken_219 rfl (lv_at hl 0 rfl) ?_
                          refine va_get (D := g.1) (ci := 3) (v := .ref (ad 11)) (C := RX3) (T := TX3) (N := 30) hx hb hts in_X3 hown hK hP 0 rfl rfl 11 (by decide) (hts _ q1308) (fun _ h9 => h9) rfl dX3_nextToken_220 ?_
                          refine lv_aload_n hx hb dX3_nextToken_223 rfl (lv_at hl 0 rfl) ?_
                          refine va_get (D := g.1) (ci := 3) (v := .int (nI (cu + 1 + k))) (C := RX3) (T := TX3) (N := 30) hx hb hts in_X3 hown hK hP 0 rfl rfl 13 (by decide) (hts _ q1310) (fun _ h9 => h9) rfl dX3_nextToken_224 ?_
                          refine zald hx hb hK hP 10 0 rfl rfl (j := cu + 1 + k) (by omega) (by decide) dX3_nextToken_227 ?_
                          refine zti (congrFun hc11 _) ?_
                          refine zti (show (nF T) (cu + 1 + k) = nI (T (cu + 1 + k)) from rfl) ?_
                          refine lv_iadd hx hb dX3_nextToken_228 ?_
                          refine zti (nI_add (10 * (tval T cu (k + 1))) (T (cu + 1 + k))) ?_
                          refine lv_bipush (v := nI 48) hx hb dX3_nextToken_229 (by decide) ?_
                          refine lv_isub hx hb dX3_nextToken_231 ?_
                          refine zti (pk_sub (a := 10 * (tval T cu (k + 1)) + (T (cu + 1 + k))) (b := 48) (by omega)) ?_
                          refine lv_goto (tgt := 239) hx hb dX3_nextToken_232 (by decide) ?_
                          exact jn_199 _ ((congrArg nI (show tval T cu (k + 1 + 1) = 10 * (tval T cu (k + 1)) + (T (cu + 1 + k)) - 48 from by exact tval_s (by omega) (by omega))).symm)
                · have hP : va_P g.1 zCL (mW g ad (va_up (va_up (va_up (va_up fi 13 (nI (cu + 1 + 0))) 14 (nI cu)) 15 (nI 3)) 16 (nI (tval T cu (0 + 1)))) cn xl) _ := hP
                  have hD : va_D (mA ad s.heap.size) (mW g ad (va_up (va_up (va_up (va_up fi 13 (nI (cu + 1 + 0))) 14 (nI cu)) 15 (nI 3)) 16 (nI (tval T cu (0 + 1)))) cn xl) := hD
                  exact ⟨rfl, rfl, hP, hD, hS, lv_sub hl [0] rfl, trivial⟩
        · refine lv_iconst (v := nI 2) hx hb dX3_nextToken_70 (by decide) ?_
          refine lv_goto (tgt := 118) hx hb dX3_nextToken_71 (by decide) ?_
          have hdg : ¬ tkd T n cu := fun z => by have h8 := z.2.1; have h9 := z.2.2; omega
          refine va_put (D := g.1) (ci := 3) (v := .int (nI 2)) (ty := .int) (C := RX3) (T := TX3) (N := 30) hx hb hts in_X3 tyX3 tyX3_ok nmX3 hown hK hP hD hS 0 rfl rfl 15 (by decide) (hts _ q1312) (fun _ h9 => h9) rfl (by decide +kernel) rfl rfl (Nat.le_of_ble_eq_true rfl) dX3_nextToken_118 (fun H locs hP hD hS => ?_)
          have hP : va_P g.1 zCL (mW g ad (va_up (va_up (va_up fi 14 (nI cu)) 15 (nI 2)) 16 (nI (T cu))) cn xl) _ := hP
          have hD : va_D (mA ad s.heap.size) (mW g ad (va_up (va_up (va_up fi 14 (nI cu)) 15 (nI 2)) 16 (nI (T cu))) cn xl) := hD
          refine lv_aload_n hx hb dX3_nextToken_121 rfl (lv_at hl 0 rfl) ?_
          refine lv_dup hx hb dX3_nextToken_122 rfl ?_
          refine va_get (D := g.1) (ci := 3) (v := .int (fi 13)) (C := RX3) (T := TX3) (N := 30) hx hb hts in_X3 hown hK hP 0 rfl rfl 13 (by decide) (hts _ q1310) (fun _ h9 => h9) rfl dX3_nextToken_123 ?_
          refine zti (hf13) ?_
          refine lv_aload_n hx hb dX3_nextToken_126 rfl (lv_at hl 0 rfl) ?_
          refine va_get (D := g.1) (ci := 3) (v := .int (fi 13)) (C := RX3) (T := TX3) (N := 30) hx hb hts in_X3 hown hK hP 0 rfl rfl 13 (by decide) (hts _ q1310) (fun _ h9 => h9) rfl dX3_nextToken_127 ?_
          refine zti (hf13) ?_
          refine lv_aload_n hx hb dX3_nextToken_130 rfl (lv_at hl 0 rfl) ?_
          refine va_get (D := g.1) (ci := 3) (v := .int (fi 12)) (C := RX3) (T := TX3) (N := 30) hx hb hts in_X3 hown hK hP 0 rfl rfl 12 (by decide) (hts _ q1309) (fun _ h9 => h9) rfl dX3_nextToken_131 ?_
          refine zti (hf12) ?_
          refine zc_ge (tgt := 141) hx hb (by omega) (by omega) dX3_nextToken_134 (by decide) (fun c_134 => ?_) (fun c_134 => ?_)
          · omega
          · refine lv_iconst (v := nI 1) hx hb dX3_nextToken_137 (by decide) ?_
            refine lv_goto (tgt := 142) hx hb dX3_nextToken_138 (by decide) ?_
            refine lv_iadd hx hb dX3_nextToken_142 ?_
            refine zti (nI_add cu 1) ?_
            refine va_put (D := g.1) (ci := 3) (v := .int (nI (cu + 1))) (ty := .int) (C := RX3) (T := TX3) (N := 30) hx hb hts in_X3 tyX3 tyX3_ok nmX3 hown hK hP hD hS 0 rfl rfl 13 (by decide) (hts _ q1310) (fun _ h9 => h9) rfl (by decide +kernel) rfl rfl (Nat.le_of_ble_eq_true rfl) dX3_nextToken_143 (fun H locs hP hD hS => ?_)
            have hP : va_P g.1 zCL (mW g ad (va_up (va_up (va_up (va_up fi 13 (nI (cu + 1))) 14 (nI cu)) 15 (nI 2)) 16 (nI (T cu))) cn xl) _ := hP
            have hD : va_D (mA ad s.heap.size) (mW g ad (va_up (va_up (va_up (va_up fi 13 (nI (cu + 1))) 14 (nI cu)) 15 (nI 2)) 16 (nI (T cu))) cn xl) := hD
            refine lv_aload_n hx hb dX3_nextToken_146 rfl (lv_at hl 0 rfl) ?_
            refine va_get (D := g.1) (ci := 3) (v := .int (nI 2)) (C := RX3) (T := TX3) (N := 30) hx hb hts in_X3 hown hK hP 0 rfl rfl 15 (by decide) (hts _ q1312) (fun _ h9 => h9) rfl dX3_nextToken_147 ?_
            refine lv_iconst (v := nI 3) hx hb dX3_nextToken_150 (by decide) ?_
            refine zc_ne (tgt := 277) hx hb (by omega) (by omega) dX3_nextToken_151 (by decide) (fun c_151 => ?_) (fun c_151 => ?_)
            · exact W.vret hx hb hr (fun t ht hW => ⟨⟨(va_up (va_up (va_up (va_up fi 13 (nI (cu + 1))) 14 (nI cu)) 15 (nI 2)) 16 (nI (T cu)), cn, xl), rfl, ⟨trivial, by rw [show tkE T n cu = cu + 1 from (zif_t hcn).trans (zif_f hdg), show tkV T n cu = nI (T cu) from (zif_t hcn).trans (zif_f hdg), show tkK T n cu = 2 from (zif_t hcn).trans ((zif_f hdg).trans (zif_t (by omega)))]⟩, by rw [ht]; exact hP, hD⟩, hS.F ht⟩) hS.2.2 dX3_nextToken_277
            · omega
      · omega
  · obtain rfl : cu = n := by omega
    refine lv_aload_n hx hb dX3_nextToken_0 rfl (lv_at hl 0 rfl) ?_
    refine lv_aload_n hx hb dX3_nextToken_1 rfl (lv_at hl 0 rfl) ?_
    refine va_get (D := g.1) (ci := 3) (v := .int (fi 13)) (C := RX3) (T := TX3) (N := 30) hx hb hts in_X3 hown hK hP 0 rfl rfl 13 (by decide) (hts _ q1310) (fun _ h9 => h9) rfl dX3_nextToken_2 ?_
    refine zti (hf13) ?_
    refine va_put (D := g.1) (ci := 3) (v := .int (nI cu)) (ty := .int) (C := RX3) (T := TX3) (N := 30) hx hb hts in_X3 tyX3 tyX3_ok nmX3 hown hK hP hD hS 0 rfl rfl 14 (by decide) (hts _ q1311) (fun _ h9 => h9) rfl (by decide +kernel) rfl rfl (Nat.le_of_ble_eq_true rfl) dX3_nextToken_5 (fun H locs hP hD hS => ?_)
    have hP : va_P g.1 zCL (mW g ad (va_up fi 14 (nI cu)) cn xl) _ := hP
    have hD : va_D (mA ad s.heap.size) (mW g ad (va_up fi 14 (nI cu)) cn xl) := hD
    refine lv_aload_n hx hb dX3_nextToken_8 rfl (lv_at hl 0 rfl) ?_
    refine lv_aload_n hx hb dX3_nextToken_9 rfl (lv_at hl 0 rfl) ?_
    refine va_get (D := g.1) (ci := 3) (v := .int (fi 13)) (C := RX3) (T := TX3) (N := 30) hx hb hts in_X3 hown hK hP 0 rfl rfl 13 (by decide) (hts _ q1310) (fun _ h9 => h9) rfl dX3_nextToken_10 ?_
    refine zti (hf13) ?_
    refine lv_aload_n hx hb dX3_nextToken_13 rfl (lv_at hl 0 rfl) ?_
    refine va_get (D := g.1) (ci := 3) (v := .int (fi 12)) (C := RX3) (T := TX3) (N := 30) hx hb hts in_X3 hown hK hP 0 rfl rfl 12 (by decide) (hts _ q1309) (fun _ h9 => h9) rfl dX3_nextToken_14 ?_
    refine zti (hf12) ?_
    refine zc_ge (tgt := 32) hx hb (by omega) (by omega) dX3_nextToken_17 (by decide) (fun c_17 => ?_) (fun c_17 => ?_)
    · refine lv_ldc hx hb hown (hts _ q1433) dX3_nextToken_32 ?_
      refine zti (show _ = tkV T cu cu from (show tkV T cu cu = -1000000 from zif_f hcn).symm) ?_
      refine va_put (D := g.1) (ci := 3) (v := .int (tkV T cu cu)) (ty := .int) (C := RX3) (T := TX3) (N := 30) hx hb hts in_X3 tyX3 tyX3_ok nmX3 hown hK hP hD hS 0 rfl rfl 16 (by decide) (hts _ q1313) (fun _ h9 => h9) rfl (by decide +kernel) rfl rfl (Nat.le_of_ble_eq_true rfl) dX3_nextToken_34 (fun H locs hP hD hS => ?_)
      have hP : va_P g.1 zCL (mW g ad (va_up (va_up fi 14 (nI cu)) 16 (tkV T cu cu)) cn xl) _ := hP
      have hD : va_D (mA ad s.heap.size) (mW g ad (va_up (va_up fi 14 (nI cu)) 16 (tkV T cu cu)) cn xl) := hD
      refine lv_aload_n hx hb dX3_nextToken_37 rfl (lv_at hl 0 rfl) ?_
      refine lv_aload_n hx hb dX3_nextToken_38 rfl (lv_at hl 0 rfl) ?_
      refine va_get (D := g.1) (ci := 3) (v := .int (fi 13)) (C := RX3) (T := TX3) (N := 30) hx hb hts in_X3 hown hK hP 0 rfl rfl 13 (by decide) (hts _ q1310) (fun _ h9 => h9) rfl dX3_nextToken_39 ?_
      refine zti (hf13) ?_
      refine lv_aload_n hx hb dX3_nextToken_42 rfl (lv_at hl 0 rfl) ?_
      refine va_get (D := g.1) (ci := 3) (v := .int (fi 12)) (C := RX3) (T := TX3) (N := 30) hx hb hts in_X3 hown hK hP 0 rfl rfl 12 (by decide) (hts _ q1309) (fun _ h9 => h9) rfl dX3_nextToken_43 ?_
      refine zti (hf12) ?_
      refine zc_ne (tgt := 53) hx hb (by omega) (by omega) dX3_nextToken_46 (by decide) (fun c_46 => ?_) (fun c_46 => ?_)
      · omega
      · refine lv_iconst (v := nI 1) hx hb dX3_nextToken_49 (by decide) ?_
        refine lv_goto (tgt := 118) hx hb dX3_nextToken_50 (by decide) ?_
        refine va_put (D := g.1) (ci := 3) (v := .int (nI 1)) (ty := .int) (C := RX3) (T := TX3) (N := 30) hx hb hts in_X3 tyX3 tyX3_ok nmX3 hown hK hP hD hS 0 rfl rfl 15 (by decide) (hts _ q1312) (fun _ h9 => h9) rfl (by decide +kernel) rfl rfl (Nat.le_of_ble_eq_true rfl) dX3_nextToken_118 (fun H locs hP hD hS => ?_)
        have hP : va_P g.1 zCL (mW g ad (va_up (va_up (va_up fi 14 (nI cu)) 15 (nI 1)) 16 (tkV T cu cu)) cn xl) _ := hP
        have hD : va_D (mA ad s.heap.size) (mW g ad (va_up (va_up (va_up fi 14 (nI cu)) 15 (nI 1)) 16 (tkV T cu cu)) cn xl) := hD
        refine lv_aload_n hx hb dX3_nextToken_121 rfl (lv_at hl 0 rfl) ?_
        refine lv_dup hx hb dX3_nextToken_122 rfl ?_
        refine va_get (D := g.1) (ci := 3) (v := .int (fi 13)) (C := RX3) (T := TX3) (N := 30) hx hb hts in_X3 hown hK hP 0 rfl rfl 13 (by decide) (hts _ q1310) (fun _ h9 => h9) rfl dX3_nextToken_123 ?_
        refine zti (hf13) ?_
        refine lv_aload_n hx hb dX3_nextToken_126 rfl (lv_at hl 0 rfl) ?_
        refine va_get (D := g.1) (ci := 3) (v := .int (fi 13)) (C := RX3) (T := TX3) (N := 30) hx hb hts in_X3 hown hK hP 0 rfl rfl 13 (by decide) (hts _ q1310) (fun _ h9 => h9) rfl dX3_nextToken_127 ?_
        refine zti (hf13) ?_
        refine lv_aload_n hx hb dX3_nextToken_130 rfl (lv_at hl 0 rfl) ?_
        refine va_get (D := g.1) (ci := 3) (v := .int (fi 12)) (C := RX3) (T := TX3) (N := 30) hx hb hts in_X3 hown hK hP 0 rfl rfl 12 (by decide) (hts _ q1309) (fun _ h9 => h9) rfl dX3_nextToken_131 ?_
        refine zti (hf12) ?_
        refine zc_ge (tgt := 141) hx hb (by omega) (by omega) dX3_nextToken_134 (by decide) (fun c_134 => ?_) (fun c_134 => ?_)
        · refine lv_iconst (v := nI 0) hx hb dX3_nextToken_141 (by decide) ?_
          refine lv_iadd hx hb dX3_nextToken_142 ?_
          refine zti (nI_add cu 0) ?_
          refine va_put (D := g.1) (ci := 3) (v := .int (nI (cu + 0))) (ty := .int) (C := RX3) (T := TX3) (N := 30) hx hb hts in_X3 tyX3 tyX3_ok nmX3 hown hK hP hD hS 0 rfl rfl 13 (by decide) (hts _ q1310) (fun _ h9 => h9) rfl (by decide +kernel) rfl rfl (Nat.le_of_ble_eq_true rfl) dX3_nextToken_143 (fun H locs hP hD hS => ?_)
          have hP : va_P g.1 zCL (mW g ad (va_up (va_up (va_up (va_up fi 13 (nI (cu + 0))) 14 (nI cu)) 15 (nI 1)) 16 (tkV T cu cu)) cn xl) _ := hP
          have hD : va_D (mA ad s.heap.size) (mW g ad (va_up (va_up (va_up (va_up fi 13 (nI (cu + 0))) 14 (nI cu)) 15 (nI 1)) 16 (tkV T cu cu)) cn xl) := hD
          refine lv_aload_n hx hb dX3_nextToken_146 rfl (lv_at hl 0 rfl) ?_
          refine va_get (D := g.1) (ci := 3) (v := .int (nI 1)) (C := RX3) (T := TX3) (N := 30) hx hb hts in_X3 hown hK hP 0 rfl rfl 15 (by decide) (hts _ q1312) (fun _ h9 => h9) rfl dX3_nextToken_147 ?_
          refine lv_iconst (v := nI 3) hx hb dX3_nextToken_150 (by decide) ?_
          refine zc_ne (tgt := 277) hx hb (by omega) (by omega) dX3_nextToken_151 (by decide) (fun c_151 => ?_) (fun c_151 => ?_)
          · exact W.vret hx hb hr (fun t ht hW => ⟨⟨(va_up (va_up (va_up (va_up fi 13 (nI (cu + 0))) 14 (nI cu)) 15 (nI 1)) 16 (tkV T cu cu), cn, xl), rfl, ⟨trivial, by rw [show tkE T cu cu = cu from zif_f hcn, show tkK T cu cu = 1 from zif_f hcn, Nat.add_zero]⟩, by rw [ht]; exact hP, hD⟩, hS.F ht⟩) hS.2.2 dX3_nextToken_277
          · omega
        · omega
    · omega
