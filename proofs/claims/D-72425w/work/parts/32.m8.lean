/-! the twin: public writers, 2 -/
set_option maxHeartbeats 4000000 in
set_option maxRecDepth 100000 in
theorem m_X3_copy (l : Launch) (g : zG) (ad : Nat → Nat) (fi : Nat → Int32) (cn : Nat → Nat → Int32) (xl : Nat → Nat → Int64) (sz : Nat) (S : zS) (hM : MR S fi cn) (hX : MX fi cn xl) (hI : SI S) (a2 i2 b2 j2 n2 : Int32) : Met l yX3_copy (ws_ yX3_copy cX3_copy 9 (some .int)) ({ frames := 2, cells := 0, slots := 0, locals := 45 }) (zPc g [.ref (ad 0), .int a2, .int i2, .int b2, .int j2, .int n2] (mH g ad fi cn xl sz)) (va_Qi (fun (r9 : Int32) u => r9 = (opCopy S a2 i2 b2 j2 n2 ).1 ∧ MR (opCopy S a2 i2 b2 j2 n2 ).2 u.1 u.2.1 ∧ MX u.1 u.2.1 u.2.2) (mB g ad sz) (mA ad sz)) 0 0 (mA ad sz) := by
  refine Met.ofW (cc := cX3_copy) (maxL := 9) (ret := (some .int)) (by decide) rfl ?_
  intro p e s m args below meth c s₁ B0 hml hv
  obtain ⟨rfl, ⟨hK, hN⟩, hsz, hP, hD⟩ := hv
  have hx := B0.exec
  have hb := B0.bytes
  have hr := B0.returns
  have hts := atoms_spec (ws := ws_ yX3_copy cX3_copy 9 (some .int)) B0.pre
  have hts : ∀ w ∈ lw_all, w.before _ s = true := fun w h => hts w (List.mem_cons_of_mem _ h)
  have hown : s.vm.findClass RX3 = some m.cls := findClass_of_methodNamed B0.named
  have hlocks := B0.notSynchronized
  subst hsz
  have hD := mD_self s.heap.size hD
  have hS : va_S (mA ad s.heap.size) s.heap s.heap [] := va_S.rf
  have hl := lv_entry ([.ref (ad 0), .int a2, .int i2, .int b2, .int j2, .int n2]) (n := 9) (Nat.le_of_ble_eq_true rfl)
  rw [lg_entry_eq]
  generalize (lg_sl ([.ref (ad 0), .int a2, .int i2, .int b2, .int j2, .int n2]) ++ List.replicate (9 - (lg_sl ([.ref (ad 0), .int a2, .int i2, .int b2, .int j2, .int n2])).length) Slot.unset).toArray = ls at hl ⊢
  have hl : lv_has ls 9 [(0, .ref (ad 0)), (1, .int a2), (2, .int i2), (3, .int b2), (4, .int j2), (5, .int n2)] := hl
  obtain ⟨hf0, hf8, hf12, hf19, hf29, hc1, hc2, hc3, hc4, hc7, hc11, hc26, hc27, hc28⟩ := hM
  obtain ⟨F5, F6, F9, F10, F24, E25, N21, N22, b23, hc5, hc6, hc9, hc10, hc24, hc25, hc21, hc22, hf23⟩ := hX
  have hB : bOK (S.2.1 4) := hI.1
  have h0 : S.2.1 4 0 ≤ 4 := hB.n4
  have h3 : S.2.1 4 3 ≤ 8 := hB.r8
  have hac := hI.2.2.1
  have hta := hI.2.2.2.1
  have hmn := hI.2.2.2.2.2.2.1
  have htn := hI.2.2.2.2.2.1
  refine lv_iload_n hx hb dX3_copy_0 rfl (lv_at hl 1 rfl) ?_
  refine vp_callSi (W.runS (As := [.int a2]) (rest := []) ⟨hx, hb, hml, hown, hts⟩ (m_X3_isRow l g a2) (va_cwS 1 hts (lw_S q1393 q1394 q69 q1395) rfl rfl rfl hdS_X3_isRow ⟨Nat.le_of_ble_eq_true rfl, Nat.le_of_ble_eq_true rfl⟩) (zpreS hK hN trivial) rfl rfl hl.1 rfl (lv_room (Nat.le_of_ble_eq_true rfl)) dX3_copy_1 ⟨Nat.le_of_ble_eq_true rfl, Nat.le_of_ble_eq_true rfl⟩) (fun r_1 hr_1 => ?_)
  subst hr_1
  refine zi_eqB (tgt := 14) hx hb dX3_copy_4 (by decide) (fun c_4 => ?_) (fun c_4 => ?_)
  · refine lv_ldc hx hb hown (hts _ q1401) dX3_copy_14 ?_
    exact W.iret (v := -1000001) hx hb hr (fun t ht hW => ⟨⟨-1000001, (fi, cn, xl), rfl, (by unfold opCopy; rw [zif_f c_4]; exact ⟨rfl, ⟨hf0, hf8, hf12, hf19, hf29, hc1, hc2, hc3, hc4, hc7, hc11, hc26, hc27, hc28⟩, ⟨_, _, _, _, _, _, _, _, _, hc5, hc6, hc9, hc10, hc24, hc25, hc21, hc22, hf23⟩⟩), by rw [ht]; exact hP, hD⟩, hS.F ht⟩) hS.2.2 dX3_copy_16
  · refine lv_iload_n hx hb dX3_copy_7 rfl (lv_at hl 3 rfl) ?_
    refine vp_callSi (W.runS (As := [.int b2]) (rest := []) ⟨hx, hb, hml, hown, hts⟩ (m_X3_isRow l g b2) (va_cwS 1 hts (lw_S q1393 q1394 q69 q1395) rfl rfl rfl hdS_X3_isRow ⟨Nat.le_of_ble_eq_true rfl, Nat.le_of_ble_eq_true rfl⟩) (zpreS hK hN trivial) rfl rfl hl.1 rfl (lv_room (Nat.le_of_ble_eq_true rfl)) dX3_copy_8 ⟨Nat.le_of_ble_eq_true rfl, Nat.le_of_ble_eq_true rfl⟩) (fun r_8 hr_8 => ?_)
    subst hr_8
    refine zi_neB (tgt := 17) hx hb dX3_copy_11 (by decide) (fun c_11 => ?_) (fun c_11 => ?_)
    · obtain ⟨x, rfl, hu_x, hv_x⟩ := zIn_ex c_4 (by omega)
      obtain ⟨y, rfl, hu_y, hv_y⟩ := zIn_ex c_11 (by omega)
      have hmx := hmn x (by omega)
      have hmy := hmn y (by omega)
      refine lv_aload_n hx hb dX3_copy_17 rfl (lv_at hl 0 rfl) ?_
      refine lv_iconst (v := nI 0) hx hb dX3_copy_18 (by decide) ?_
      refine va_put (D := g.1) (ci := 3) (v := .int (nI 0)) (ty := .int) (C := RX3) (T := TX3) (N := 30) hx hb hts in_X3 tyX3 tyX3_ok nmX3 hown hK hP hD hS 0 rfl rfl 0 (by decide) (hts _ q1297) (fun _ h9 => h9) rfl (by decide +kernel) rfl rfl (Nat.le_of_ble_eq_true rfl) dX3_copy_19 (fun H locs hP hD hS => ?_)
      have hP : va_P g.1 zCL (mW g ad (va_up fi 0 (nI 0)) cn xl) _ := hP
      have hD : va_D (mA ad s.heap.size) (mW g ad (va_up fi 0 (nI 0)) cn xl) := hD
      refine lv_aload_n hx hb dX3_copy_22 rfl (lv_at hl 0 rfl) ?_
      refine va_get (D := g.1) (ci := 3) (v := .ref (ad 1)) (C := RX3) (T := TX3) (N := 30) hx hb hts in_X3 hown hK hP 0 rfl rfl 1 (by decide) (hts _ q1298) (fun _ h9 => h9) rfl dX3_copy_23 ?_
      refine lv_iload_n hx hb dX3_copy_26 rfl (lv_at hl 1 rfl) ?_
      refine zald hx hb hK hP 1 0 rfl rfl (j := x) (by omega) (by decide) dX3_copy_27 ?_
      refine zti (congrFun hc1 _) ?_
      refine lv_if_lt (tgt := 40) hx hb dX3_copy_28 (by decide) (fun c_28 => ?_) (fun c_28 => ?_)
      · refine lv_aload_n hx hb dX3_copy_40 rfl (lv_at hl 0 rfl) ?_
        refine lv_iconst (v := nI 1) hx hb dX3_copy_41 (by decide) ?_
        have hle_42 := hS.1
        refine va_calli (va_runV (As := [.int (nI 1)]) (rest := []) ⟨hx, hb, hml, hown, hts⟩ (m_X3_finding l g ad (va_up fi 0 (nI 0)) cn xl _ 1) (cwV 1 hts (lw_V q1402 q1404 qs31 q69 q1405) rfl rfl rfl hdV_X3_finding ⟨Nat.le_of_ble_eq_true rfl, Nat.le_of_ble_eq_true rfl⟩) (zpreV hK hN (va_recv hK hP (ci := 3) (q0 := 0) rfl rfl) ⟨rfl, hP, hD.weaken (fun _ _ _ _ => trivial)⟩) rfl rfl hl.1 rfl (lv_room (Nat.le_of_ble_eq_true rfl)) dX3_copy_42 ⟨Nat.le_of_ble_eq_true rfl, Nat.le_of_ble_eq_true rfl⟩) hS (fun q _ h => mA_le hS.1 q h) (mA_le hS.1) (fun r_42 u t H locs ht hvm hw_42 hB hzz hkk hS => ?_)
        obtain ⟨hP, hD⟩ := hB
        rw [ht] at hP
        have hD := hD.weaken (fun _ _ _ h => mA_le hle_42 _ h)
        obtain ⟨rfl, rfl⟩ := hw_42
        have hP : va_P g.1 zCL (mW g ad (va_up fi 0 (nI 1)) cn xl) _ := hP
        have hD : va_D (mA ad s.heap.size) (mW g ad (va_up fi 0 (nI 1)) cn xl) := hD
        exact W.iret (v := -1000010 - nI 1) hx hb hr (fun t ht hW => ⟨⟨-1000010 - nI 1, (va_up fi 0 (nI 1), cn, xl), rfl, (by unfold opCopy; (try rw [zn_nI (n := x) (by omega)]); (try rw [zn_nI (n := y) (by omega)]); rw [zif_t c_4, zif_t c_11, zif_t c_28]; exact ⟨rfl, ⟨rfl, hf8, hf12, hf19, hf29, hc1, hc2, hc3, hc4, hc7, hc11, hc26, hc27, hc28⟩, ⟨_, _, _, _, _, _, _, _, _, hc5, hc6, hc9, hc10, hc24, hc25, hc21, hc22, hf23⟩⟩), by rw [ht]; exact hP, hD⟩, hS.F ht⟩) hS.2.2 dX3_copy_45
      · refine lv_aload_n hx hb dX3_copy_31 rfl (lv_at hl 0 rfl) ?_
        refine va_get (D := g.1) (ci := 3) (v := .ref (ad 1)) (C := RX3) (T := TX3) (N := 30) hx hb hts in_X3 hown hK hP 0 rfl rfl 1 (by decide) (hts _ q1298) (fun _ h9 => h9) rfl dX3_copy_32 ?_
        refine lv_iload_n hx hb dX3_copy_35 rfl (lv_at hl 3 rfl) ?_
        refine zald hx hb hK hP 1 0 rfl rfl (j := y) (by omega) (by decide) dX3_copy_36 ?_
        refine zti (congrFun hc1 _) ?_
        refine lv_if_ge (tgt := 46) hx hb dX3_copy_37 (by decide) (fun c_37 => ?_) (fun c_37 => ?_)
        · refine lv_aload_n hx hb dX3_copy_46 rfl (lv_at hl 0 rfl) ?_
          refine va_get (D := g.1) (ci := 3) (v := .ref (ad 1)) (C := RX3) (T := TX3) (N := 30) hx hb hts in_X3 hown hK hP 0 rfl rfl 1 (by decide) (hts _ q1298) (fun _ h9 => h9) rfl dX3_copy_47 ?_
          refine lv_iload_n hx hb dX3_copy_50 rfl (lv_at hl 1 rfl) ?_
          refine zald hx hb hK hP 1 0 rfl rfl (j := x) (by omega) (by decide) dX3_copy_51 ?_
          refine zti (congrFun hc1 _) ?_
          refine lv_aload_n hx hb dX3_copy_52 rfl (lv_at hl 0 rfl) ?_
          refine va_get (D := g.1) (ci := 3) (v := .ref (ad 1)) (C := RX3) (T := TX3) (N := 30) hx hb hts in_X3 hown hK hP 0 rfl rfl 1 (by decide) (hts _ q1298) (fun _ h9 => h9) rfl dX3_copy_53 ?_
          refine lv_iload_n hx hb dX3_copy_56 rfl (lv_at hl 3 rfl) ?_
          refine zald hx hb hK hP 1 0 rfl rfl (j := y) (by omega) (by decide) dX3_copy_57 ?_
          refine zti (congrFun hc1 _) ?_
          refine lv_icmp_eq (tgt := 67) hx hb dX3_copy_58 (by decide) (fun c_58 => ?_) (fun c_58 => ?_)
          · refine lv_iload_n hx hb dX3_copy_67 rfl (lv_at hl 2 rfl) ?_
            refine lv_if_lt (tgt := 116) hx hb dX3_copy_68 (by decide) (fun c_68 => ?_) (fun c_68 => ?_)
            · have hnc : ¬ zcok S (nI x) i2 (nI y) j2 n2 := fun z => absurd ((zlt _ _).mp c_68) (by have := z.1; rw [show (0 : Int32).toInt = 0 from rfl]; omega)
              refine lv_aload_n hx hb dX3_copy_116 rfl (lv_at hl 0 rfl) ?_
              refine lv_iconst (v := nI 2) hx hb dX3_copy_117 (by decide) ?_
              have hle_118 := hS.1
              refine va_calli (va_runV (As := [.int (nI 2)]) (rest := []) ⟨hx, hb, hml, hown, hts⟩ (m_X3_finding l g ad (va_up fi 0 (nI 0)) cn xl _ 2) (cwV 1 hts (lw_V q1402 q1404 qs31 q69 q1405) rfl rfl rfl hdV_X3_finding ⟨Nat.le_of_ble_eq_true rfl, Nat.le_of_ble_eq_true rfl⟩) (zpreV hK hN (va_recv hK hP (ci := 3) (q0 := 0) rfl rfl) ⟨rfl, hP, hD.weaken (fun _ _ _ _ => trivial)⟩) rfl rfl hl.1 rfl (lv_room (Nat.le_of_ble_eq_true rfl)) dX3_copy_118 ⟨Nat.le_of_ble_eq_true rfl, Nat.le_of_ble_eq_true rfl⟩) hS (fun q _ h => mA_le hS.1 q h) (mA_le hS.1) (fun r_118 u t H locs ht hvm hw_118 hB hzz hkk hS => ?_)
              obtain ⟨hP, hD⟩ := hB
              rw [ht] at hP
              have hD := hD.weaken (fun _ _ _ h => mA_le hle_118 _ h)
              obtain ⟨rfl, rfl⟩ := hw_118
              have hP : va_P g.1 zCL (mW g ad (va_up fi 0 (nI 2)) cn xl) _ := hP
              have hD : va_D (mA ad s.heap.size) (mW g ad (va_up fi 0 (nI 2)) cn xl) := hD
              exact W.iret (v := -1000010 - nI 2) hx hb hr (fun t ht hW => ⟨⟨-1000010 - nI 2, (va_up fi 0 (nI 2), cn, xl), rfl, (by unfold opCopy; (try rw [zn_nI (n := x) (by omega)]); (try rw [zn_nI (n := y) (by omega)]); rw [zif_t c_4, zif_t c_11, zif_f c_28, zif_t c_37, zif_t c_58, zif_f hnc]; exact ⟨rfl, ⟨rfl, hf8, hf12, hf19, hf29, hc1, hc2, hc3, hc4, hc7, hc11, hc26, hc27, hc28⟩, ⟨_, _, _, _, _, _, _, _, _, hc5, hc6, hc9, hc10, hc24, hc25, hc21, hc22, hf23⟩⟩), by rw [ht]; exact hP, hD⟩, hS.F ht⟩) hS.2.2 dX3_copy_121
            · obtain ⟨i, rfl, hn_i⟩ := znlt_ex c_68
              refine lv_iload hx hb dX3_copy_71 (lv_at hl 4 rfl) ?_
              refine lv_if_lt (tgt := 116) hx hb dX3_copy_73 (by decide) (fun c_73 => ?_) (fun c_73 => ?_)
              · have hnc : ¬ zcok S (nI x) (nI i) (nI y) j2 n2 := fun z => absurd ((zlt _ _).mp c_73) (by have := z.2.1; rw [show (0 : Int32).toInt = 0 from rfl]; omega)
                refine lv_aload_n hx hb dX3_copy_116 rfl (lv_at hl 0 rfl) ?_
                refine lv_iconst (v := nI 2) hx hb dX3_copy_117 (by decide) ?_
                have hle_118 := hS.1
                refine va_calli (va_runV (As := [.int (nI 2)]) (rest := []) ⟨hx, hb, hml, hown, hts⟩ (m_X3_finding l g ad (va_up fi 0 (nI 0)) cn xl _ 2) (cwV 1 hts (lw_V q1402 q1404 qs31 q69 q1405) rfl rfl rfl hdV_X3_finding ⟨Nat.le_of_ble_eq_true rfl, Nat.le_of_ble_eq_true rfl⟩) (zpreV hK hN (va_recv hK hP (ci := 3) (q0 := 0) rfl rfl) ⟨rfl, hP, hD.weaken (fun _ _ _ _ => trivial)⟩) rfl rfl hl.1 rfl (lv_room (Nat.le_of_ble_eq_true rfl)) dX3_copy_118 ⟨Nat.le_of_ble_eq_true rfl, Nat.le_of_ble_eq_true rfl⟩) hS (fun q _ h => mA_le hS.1 q h) (mA_le hS.1) (fun r_118 u t H locs ht hvm hw_118 hB hzz hkk hS => ?_)
                obtain ⟨hP, hD⟩ := hB
                rw [ht] at hP
                have hD := hD.weaken (fun _ _ _ h => mA_le hle_118 _ h)
                obtain ⟨rfl, rfl⟩ := hw_118
                have hP : va_P g.1 zCL (mW g ad (va_up fi 0 (nI 2)) cn xl) _ := hP
                have hD : va_D (mA ad s.heap.size) (mW g ad (va_up fi 0 (nI 2)) cn xl) := hD
                exact W.iret (v := -1000010 - nI 2) hx hb hr (fun t ht hW => ⟨⟨-1000010 - nI 2, (va_up fi 0 (nI 2), cn, xl), rfl, (by unfold opCopy; (try rw [zn_nI (n := x) (by omega)]); (try rw [zn_nI (n := y) (by omega)]); rw [zif_t c_4, zif_t c_11, zif_f c_28, zif_t c_37, zif_t c_58, zif_f hnc]; exact ⟨rfl, ⟨rfl, hf8, hf12, hf19, hf29, hc1, hc2, hc3, hc4, hc7, hc11, hc26, hc27, hc28⟩, ⟨_, _, _, _, _, _, _, _, _, hc5, hc6, hc9, hc10, hc24, hc25, hc21, hc22, hf23⟩⟩), by rw [ht]; exact hP, hD⟩, hS.F ht⟩) hS.2.2 dX3_copy_121
              · obtain ⟨j, rfl, hn_j⟩ := znlt_ex c_73
                refine lv_iload hx hb dX3_copy_76 (lv_at hl 5 rfl) ?_
                refine lv_if_lt (tgt := 116) hx hb dX3_copy_78 (by decide) (fun c_78 => ?_) (fun c_78 => ?_)
                · have hnc : ¬ zcok S (nI x) (nI i) (nI y) (nI j) n2 := fun z => absurd ((zlt _ _).mp c_78) (by have := z.2.2.1; rw [show (0 : Int32).toInt = 0 from rfl]; omega)
                  refine lv_aload_n hx hb dX3_copy_116 rfl (lv_at hl 0 rfl) ?_
                  refine lv_iconst (v := nI 2) hx hb dX3_copy_117 (by decide) ?_
                  have hle_118 := hS.1
                  refine va_calli (va_runV (As := [.int (nI 2)]) (rest := []) ⟨hx, hb, hml, hown, hts⟩ (m_X3_finding l g ad (va_up fi 0 (nI 0)) cn xl _ 2) (cwV 1 hts (lw_V q1402 q1404 qs31 q69 q1405) rfl rfl rfl hdV_X3_finding ⟨Nat.le_of_ble_eq_true rfl, Nat.le_of_ble_eq_true rfl⟩) (zpreV hK hN (va_recv hK hP (ci := 3) (q0 := 0) rfl rfl) ⟨rfl, hP, hD.weaken (fun _ _ _ _ => trivial)⟩) rfl rfl hl.1 rfl (lv_room (Nat.le_of_ble_eq_true rfl)) dX3_copy_118 ⟨Nat.le_of_ble_eq_true rfl, Nat.le_of_ble_eq_true rfl⟩) hS (fun q _ h => mA_le hS.1 q h) (mA_le hS.1) (fun r_118 u t H locs ht hvm hw_118 hB hzz hkk hS => ?_)
                  obtain ⟨hP, hD⟩ := hB
                  rw [ht] at hP
                  have hD := hD.weaken (fun _ _ _ h => mA_le hle_118 _ h)
                  obtain ⟨rfl, rfl⟩ := hw_118
                  have hP : va_P g.1 zCL (mW g ad (va_up fi 0 (nI 2)) cn xl) _ := hP
                  have hD : va_D (mA ad s.heap.size) (mW g ad (va_up fi 0 (nI 2)) cn xl) := hD
                  exact W.iret (v := -1000010 - nI 2) hx hb hr (fun t ht hW => ⟨⟨-1000010 - nI 2, (va_up fi 0 (nI 2), cn, xl), rfl, (by unfold opCopy; (try rw [zn_nI (n := x) (by omega)]); (try rw [zn_nI (n := y) (by omega)]); rw [zif_t c_4, zif_t c_11, zif_f c_28, zif_t c_37, zif_t c_58, zif_f hnc]; exact ⟨rfl, ⟨rfl, hf8, hf12, hf19, hf29, hc1, hc2, hc3, hc4, hc7, hc11, hc26, hc27, hc28⟩, ⟨_, _, _, _, _, _, _, _, _, hc5, hc6, hc9, hc10, hc24, hc25, hc21, hc22, hf23⟩⟩), by rw [ht]; exact hP, hD⟩, hS.F ht⟩) hS.2.2 dX3_copy_121
                · obtain ⟨n, rfl, hn_n⟩ := znlt_ex c_78
                  refine lv_iload_n hx hb dX3_copy_81 rfl (lv_at hl 2 rfl) ?_
                  refine lv_i2l (v := lN i) hx hb dX3_copy_82 (nI_l (by omega)) ?_
                  refine lv_iload hx hb dX3_copy_83 (lv_at hl 5 rfl) ?_
                  refine lv_i2l (v := lN n) hx hb dX3_copy_85 (nI_l (by omega)) ?_
                  refine lv_ladd hx hb dX3_copy_86 ?_
                  refine ztl (lN_add i n) ?_
                  refine lv_aload_n hx hb dX3_copy_87 rfl (lv_at hl 0 rfl) ?_
                  refine va_get (D := g.1) (ci := 3) (v := .ref (ad 2)) (C := RX3) (T := TX3) (N := 30) hx hb hts in_X3 hown hK hP 0 rfl rfl 2 (by decide) (hts _ q1299) (fun _ h9 => h9) rfl dX3_copy_88 ?_
                  refine lv_iload_n hx hb dX3_copy_91 rfl (lv_at hl 1 rfl) ?_
                  refine zald hx hb hK hP 2 0 rfl rfl (j := x) (by omega) (by decide) dX3_copy_92 ?_
                  refine zti (congrFun hc2 _) ?_
                  refine zti (show (nF (S.2.1 2)) x = nI ((S.2.1 2) x) from rfl) ?_
                  refine lv_i2l (v := lN ((S.2.1 2) x)) hx hb dX3_copy_93 (nI_l (by omega)) ?_
                  refine W.lcmp hx hb dX3_copy_94 ?_
                  refine zl_gt (tgt := 116) hx hb (by omega) (by omega) dX3_copy_95 (by decide) (fun c_95 => ?_) (fun c_95 => ?_)
                  · have hnc : ¬ zcok S (nI x) (nI i) (nI y) (nI j) (nI n) := fun z => by have h9 := z.2.2.2.1; rw [nI_toInt (by omega), nI_toInt (by omega), zn_nI (n := x) (by omega)] at h9; omega
                    refine lv_aload_n hx hb dX3_copy_116 rfl (lv_at hl 0 rfl) ?_
                    refine lv_iconst (v := nI 2) hx hb dX3_copy_117 (by decide) ?_
                    have hle_118 := hS.1
                    refine va_calli (va_runV (As := [.int (nI 2)]) (rest := []) ⟨hx, hb, hml, hown, hts⟩ (m_X3_finding l g ad (va_up fi 0 (nI 0)) cn xl _ 2) (cwV 1 hts (lw_V q1402 q1404 qs31 q69 q1405) rfl rfl rfl hdV_X3_finding ⟨Nat.le_of_ble_eq_true rfl, Nat.le_of_ble_eq_true rfl⟩) (zpreV hK hN (va_recv hK hP (ci := 3) (q0 := 0) rfl rfl) ⟨rfl, hP, hD.weaken (fun _ _ _ _ => trivial)⟩) rfl rfl hl.1 rfl (lv_room (Nat.le_of_ble_eq_true rfl)) dX3_copy_118 ⟨Nat.le_of_ble_eq_true rfl, Nat.le_of_ble_eq_true rfl⟩) hS (fun q _ h => mA_le hS.1 q h) (mA_le hS.1) (fun r_118 u t H locs ht hvm hw_118 hB hzz hkk hS => ?_)
                    obtain ⟨hP, hD⟩ := hB
                    rw [ht] at hP
                    have hD := hD.weaken (fun _ _ _ h => mA_le hle_118 _ h)
                    obtain ⟨rfl, rfl⟩ := hw_118
                    have hP : va_P g.1 zCL (mW g ad (va_up fi 0 (nI 2)) cn xl) _ := hP
                    have hD : va_D (mA ad s.heap.size) (mW g ad (va_up fi 0 (nI 2)) cn xl) := hD
                    exact W.iret (v := -1000010 - nI 2) hx hb hr (fun t ht hW => ⟨⟨-1000010 - nI 2, (va_up fi 0 (nI 2), cn, xl), rfl, (by unfold opCopy; (try rw [zn_nI (n := x) (by omega)]); (try rw [zn_nI (n := y) (by omega)]); rw [zif_t c_4, zif_t c_11, zif_f c_28, zif_t c_37, zif_t c_58, zif_f hnc]; exact ⟨rfl, ⟨rfl, hf8, hf12, hf19, hf29, hc1, hc2, hc3, hc4, hc7, hc11, hc26, hc27, hc28⟩, ⟨_, _, _, _, _, _, _, _, _, hc5, hc6, hc9, hc10, hc24, hc25, hc21, hc22, hf23⟩⟩), by rw [ht]; exact hP, hD⟩, hS.F ht⟩) hS.2.2 dX3_copy_121
                  · refine lv_iload hx hb dX3_copy_98 (lv_at hl 4 rfl) ?_
                    refine lv_i2l (v := lN j) hx hb dX3_copy_100 (nI_l (by omega)) ?_
                    refine lv_iload hx hb dX3_copy_101 (lv_at hl 5 rfl) ?_
                    refine lv_i2l (v := lN n) hx hb dX3_copy_103 (nI_l (by omega)) ?_
                    refine lv_ladd hx hb dX3_copy_104 ?_
                    refine ztl (lN_add j n) ?_
                    refine lv_aload_n hx hb dX3_copy_105 rfl (lv_at hl 0 rfl) ?_
                    refine va_get (D := g.1) (ci := 3) (v := .ref (ad 2)) (C := RX3) (T := TX3) (N := 30) hx hb hts in_X3 hown hK hP 0 rfl rfl 2 (by decide) (hts _ q1299) (fun _ h9 => h9) rfl dX3_copy_106 ?_
                    refine lv_iload_n hx hb dX3_copy_109 rfl (lv_at hl 3 rfl) ?_
                    refine zald hx hb hK hP 2 0 rfl rfl (j := y) (by omega) (by decide) dX3_copy_110 ?_
                    refine zti (congrFun hc2 _) ?_
                    refine zti (show (nF (S.2.1 2)) y = nI ((S.2.1 2) y) from rfl) ?_
                    refine lv_i2l (v := lN ((S.2.1 2) y)) hx hb dX3_copy_111 (nI_l (by omega)) ?_
                    refine W.lcmp hx hb dX3_copy_112 ?_
                    refine zl_le (tgt := 122) hx hb (by omega) (by omega) dX3_copy_113 (by decide) (fun c_113 => ?_) (fun c_113 => ?_)
                    · have hok : zcok S (nI x) (nI i) (nI y) (nI j) (nI n) := by unfold zcok; rw [nI_toInt (n := i) (by omega), nI_toInt (n := j) (by omega), nI_toInt (n := n) (by omega), zn_nI (n := x) (by omega), zn_nI (n := y) (by omega)]; omega
                      refine zjoin (ls := ls) (α := Int32) (fun v9 => v9 = zB (j ≤ i)) (fun v9 => .int v9 :: []) 133 (fun v9 hv => ?_) (fun jn_122 => ?_)
                      · subst hv
                        refine lv_istore (lv' := [(6, .int (zB (j ≤ i))), (0, .ref (ad 0)), (1, .int (nI x)), (2, .int (nI i)), (3, .int (nI y)), (4, .int (nI j)), (5, .int (nI n))]) hx hb dX3_copy_133 hl (by decide) rfl (fun ls hl => ?_)
                        refine lv_iconst (v := nI 0) hx hb dX3_copy_135 (by decide) ?_
                        refine lv_istore (lv' := [(7, .int (nI 0)), (6, .int (zB (j ≤ i))), (0, .ref (ad 0)), (1, .int (nI x)), (2, .int (nI i)), (3, .int (nI y)), (4, .int (nI j)), (5, .int (nI n))]) hx hb dX3_copy_136 hl (by decide) rfl (fun ls hl => ?_)
                        by_cases hup : j ≤ i
                        · refine zloopW (head := 138) (n) (fun k H locs cells slots ls => cells = 0 ∧ slots = 0 ∧ va_P g.1 zCL (mW g ad (va_up fi 0 (nI 0)) (va_up cn 3 (va_cpy (S.2.2.1 3) (S.2.2.1 3) (40 * x + i) (40 * y + j) k)) xl) H ∧ va_D (mA ad s.heap.size) (mW g ad (va_up fi 0 (nI 0)) (va_up cn 3 (va_cpy (S.2.2.1 3) (S.2.2.1 3) (40 * x + i) (40 * y + j) k)) xl) ∧ va_S (mA ad s.heap.size) s.heap H locs ∧ lv_has ls 9 [(0, .ref (ad 0)), (1, .int (nI x)), (2, .int (nI i)), (3, .int (nI y)), (4, .int (nI j)), (5, .int (nI n)), (6, .int (zB (j ≤ i))), (7, .int (nI k))]) (fun k hv_k ih_138 H locs cells slots ls hI => ?_) 0 (Nat.zero_le _) ?_
                          · obtain ⟨rfl, rfl, hP, hD, hS, hl⟩ := hI
                            refine lv_iload hx hb dX3_copy_138 (lv_at hl 7 rfl) ?_
                            refine lv_iload hx hb dX3_copy_140 (lv_at hl 5 rfl) ?_
                            refine zc_ge (tgt := 199) hx hb (by omega) (by omega) dX3_copy_142 (by decide) (fun c_142 => ?_) (fun c_142 => ?_)
                            · obtain rfl : n = k := by omega
                              refine lv_iload hx hb dX3_copy_199 (lv_at hl 5 rfl) ?_
                              exact W.iret (v := nI n) hx hb hr (fun t ht hW => ⟨⟨nI n, (va_up fi 0 (nI 0), va_up cn 3 (va_cpy (S.2.2.1 3) (S.2.2.1 3) (40 * x + i) (40 * y + j) n), xl), rfl, (by unfold opCopy; (try rw [zn_nI (n := x) (by omega)]); (try rw [zn_nI (n := y) (by omega)]); (try rw [zn_nI (n := i) (by omega)]); (try rw [zn_nI (n := j) (by omega)]); (try rw [zn_nI (n := n) (by omega)]); rw [zif_t c_4, zif_t c_11, zif_f c_28, zif_t c_37, zif_t c_58, zif_t hok]; exact ⟨rfl, ⟨rfl, hf8, hf12, hf19, hf29, hc1, hc2, rfl, hc4, hc7, hc11, hc26, hc27, hc28⟩, ⟨_, _, _, _, _, _, _, _, _, hc5, hc6, hc9, hc10, hc24, hc25, hc21, hc22, hf23⟩⟩), by rw [ht]; exact hP, hD⟩, hS.F ht⟩) hS.2.2 dX3_copy_201
                            · refine lv_iload hx hb dX3_copy_145 (lv_at hl 6 rfl) ?_
                              refine zi_eqB (tgt := 155) hx hb dX3_copy_147 (by decide) (fun c_147 => ?_) (fun c_147 => ?_)
                              · exact absurd hup c_147
                              · refine lv_iload hx hb dX3_copy_150 (lv_at hl 7 rfl) ?_
                                refine lv_goto (tgt := 162) hx hb dX3_copy_152 (by decide) ?_
                                refine lv_istore (lv' := [(8, .int (nI k)), (0, .ref (ad 0)), (1, .int (nI x)), (2, .int (nI i)), (3, .int (nI y)), (4, .int (nI j)), (5, .int (nI n)), (6, .int (zB (j ≤ i))), (7, .int (nI k))]) hx hb dX3_copy_162 hl (by decide) rfl (fun ls hl => ?_)
                                refine lv_aload_n hx hb dX3_copy_164 rfl (lv_at hl 1 rfl) ?_
                                refine va_get (D := g.1) (ci := 3) (v := .ref (ad 3)) (C := RX3) (T := TX3) (N := 30) hx hb hts in_X3 hown hK hP 0 rfl rfl 3 (by decide) (hts _ q1300) (fun _ h9 => h9) rfl dX3_copy_165 ?_
                                refine lv_bipush (v := nI 40) hx hb dX3_copy_168 (by decide) ?_
                                refine lv_iload_n hx hb dX3_copy_170 rfl (lv_at hl 4 rfl) ?_
                                refine lv_imul hx hb dX3_copy_171 ?_
                                refine zti (pk_mul 40 y) ?_
                                refine lv_iload hx hb dX3_copy_172 (lv_at hl 5 rfl) ?_
                                refine lv_iadd hx hb dX3_copy_174 ?_
                                refine zti (nI_add (40 * y) j) ?_
                                refine lv_iload hx hb dX3_copy_175 (lv_at hl 0 rfl) ?_
                                refine lv_iadd hx hb dX3_copy_177 ?_
                                refine zti (nI_add (40 * y + j) k) ?_
                                refine lv_aload_n hx hb dX3_copy_178 rfl (lv_at hl 1 rfl) ?_
                                refine va_get (D := g.1) (ci := 3) (v := .ref (ad 3)) (C := RX3) (T := TX3) (N := 30) hx hb hts in_X3 hown hK hP 0 rfl rfl 3 (by decide) (hts _ q1300) (fun _ h9 => h9) rfl dX3_copy_179 ?_
                                refine lv_bipush (v := nI 40) hx hb dX3_copy_182 (by decide) ?_
                                refine lv_iload_n hx hb dX3_copy_184 rfl (lv_at hl 2 rfl) ?_
                                refine lv_imul hx hb dX3_copy_185 ?_
                                refine zti (pk_mul 40 x) ?_
                                refine lv_iload_n hx hb dX3_copy_186 rfl (lv_at hl 3 rfl) ?_
                                refine lv_iadd hx hb dX3_copy_187 ?_
                                refine zti (nI_add (40 * x) i) ?_
                                refine lv_iload hx hb dX3_copy_188 (lv_at hl 0 rfl) ?_
                                refine lv_iadd hx hb dX3_copy_190 ?_
                                refine zti (nI_add (40 * x + i) k) ?_
                                refine zald hx hb hK hP 3 0 rfl rfl (j := 40 * x + i + k) (by omega) (by decide) dX3_copy_191 ?_
                                refine zti (show (va_cpy (S.2.2.1 3) (S.2.2.1 3) (40 * x + i) (40 * y + j) k) (40 * x + i + k) = S.2.2.1 3 (40 * x + i + k) from pk_cpy_out (by omega)) ?_
                                refine zast (f := va_cpy (S.2.2.1 3) (S.2.2.1 3) (40 * x + i) (40 * y + j) k) hx hb hK hP hD hS 3 0 rfl rfl (j := 40 * y + j + k) (by omega) (by decide) dX3_copy_192 (fun H locs hP hD hS => ?_)
                                have hP : va_P g.1 zCL (mW g ad (va_up fi 0 (nI 0)) (va_up cn 3 (upd (va_cpy (S.2.2.1 3) (S.2.2.1 3) (40 * x + i) (40 * y + j) k) (40 * y + j + k) (S.2.2.1 3 (40 * x + i + k)))) xl) _ := hP
                                have hD : va_D (mA ad s.heap.size) (mW g ad (va_up fi 0 (nI 0)) (va_up cn 3 (upd (va_cpy (S.2.2.1 3) (S.2.2.1 3) (40 * x + i) (40 * y + j) k) (40 * y + j + k) (S.2.2.1 3 (40 * x + i + k)))) xl) := hD
                                refine lv_iinc (v := nI (k + 1)) (lv' := [(7, .int (nI (k + 1))), (8, .int (nI k)), (0, .ref (ad 0)), (1, .int (nI x)), (2, .int (nI i)), (3, .int (nI y)), (4, .int (nI j)), (5, .int (nI n)), (6, .int (zB (j ≤ i)))]) hx hb dX3_copy_193 hl (k := 8) rfl (nI_add k 1) (by decide) rfl (fun ls hl => ?_)
                                refine lv_goto (tgt := 138) hx hb dX3_copy_196 (by decide) ?_
                                rw [upd_cpy (S.2.2.1 3) (S.2.2.1 3) (40 * x + i) (40 * y + j) k] at hP hD
                                exact ih_138 (by omega) _ _ _ _ _ ⟨rfl, rfl, hP, hD, hS, lv_sub hl [2, 3, 4, 5, 6, 7, 8, 0] rfl⟩
                          · rw [mW_up (cn := cn) (k := 3) (f := va_cpy (S.2.2.1 3) (S.2.2.1 3) (40 * x + i) (40 * y + j) 0) (by rw [zcpy_0]; exact hc3)] at hP
                            rw [mW_up (cn := cn) (k := 3) (f := va_cpy (S.2.2.1 3) (S.2.2.1 3) (40 * x + i) (40 * y + j) 0) (by rw [zcpy_0]; exact hc3)] at hD
                            have hP : va_P g.1 zCL (mW g ad (va_up fi 0 (nI 0)) (va_up cn 3 (va_cpy (S.2.2.1 3) (S.2.2.1 3) (40 * x + i) (40 * y + j) 0)) xl) _ := hP
                            have hD : va_D (mA ad s.heap.size) (mW g ad (va_up fi 0 (nI 0)) (va_up cn 3 (va_cpy (S.2.2.1 3) (S.2.2.1 3) (40 * x + i) (40 * y + j) 0)) xl) := hD
                            exact ⟨rfl, rfl, hP, hD, hS, lv_sub hl [2, 3, 4, 5, 6, 7, 1, 0] rfl⟩
                        · refine zloopW (head := 138) (n) (fun k H locs cells slots ls => cells = 0 ∧ slots = 0 ∧ va_P g.1 zCL (mW g ad (va_up fi 0 (nI 0)) (va_up cn 3 (va_cpy (S.2.2.1 3) (S.2.2.1 3) (40 * x + i + (n - k)) (40 * y + j + (n - k)) k)) xl) H ∧ va_D (mA ad s.heap.size) (mW g ad (va_up fi 0 (nI 0)) (va_up cn 3 (va_cpy (S.2.2.1 3) (S.2.2.1 3) (40 * x + i + (n - k)) (40 * y + j + (n - k)) k)) xl) ∧ va_S (mA ad s.heap.size) s.heap H locs ∧ lv_has ls 9 [(0, .ref (ad 0)), (1, .int (nI x)), (2, .int (nI i)), (3, .int (nI y)), (4, .int (nI j)), (5, .int (nI n)), (6, .int (zB (j ≤ i))), (7, .int (nI k))]) (fun k hv_k ih_138 H locs cells slots ls hI => ?_) 0 (Nat.zero_le _) ?_
                          · obtain ⟨rfl, rfl, hP, hD, hS, hl⟩ := hI
                            refine lv_iload hx hb dX3_copy_138 (lv_at hl 7 rfl) ?_
                            refine lv_iload hx hb dX3_copy_140 (lv_at hl 5 rfl) ?_
                            refine zc_ge (tgt := 199) hx hb (by omega) (by omega) dX3_copy_142 (by decide) (fun c_142 => ?_) (fun c_142 => ?_)
                            · obtain rfl : n = k := by omega
                              rw [Nat.sub_self, Nat.add_zero, Nat.add_zero] at hP hD
                              have hP : va_P g.1 zCL (mW g ad (va_up fi 0 (nI 0)) (va_up cn 3 (va_cpy (S.2.2.1 3) (S.2.2.1 3) (40 * x + i) (40 * y + j) n)) xl) _ := hP
                              have hD : va_D (mA ad s.heap.size) (mW g ad (va_up fi 0 (nI 0)) (va_up cn 3 (va_cpy (S.2.2.1 3) (S.2.2.1 3) (40 * x + i) (40 * y + j) n)) xl) := hD
                              refine lv_iload hx hb dX3_copy_199 (lv_at hl 5 rfl) ?_
                              exact W.iret (v := nI n) hx hb hr (fun t ht hW => ⟨⟨nI n, (va_up fi 0 (nI 0), va_up cn 3 (va_cpy (S.2.2.1 3) (S.2.2.1 3) (40 * x + i) (40 * y + j) n), xl), rfl, (by unfold opCopy; (try rw [zn_nI (n := x) (by omega)]); (try rw [zn_nI (n := y) (by omega)]); (try rw [zn_nI (n := i) (by omega)]); (try rw [zn_nI (n := j) (by omega)]); (try rw [zn_nI (n := n) (by omega)]); rw [zif_t c_4, zif_t c_11, zif_f c_28, zif_t c_37, zif_t c_58, zif_t hok]; exact ⟨rfl, ⟨rfl, hf8, hf12, hf19, hf29, hc1, hc2, rfl, hc4, hc7, hc11, hc26, hc27, hc28⟩, ⟨_, _, _, _, _, _, _, _, _, hc5, hc6, hc9, hc10, hc24, hc25, hc21, hc22, hf23⟩⟩), by rw [ht]; exact hP, hD⟩, hS.F ht⟩) hS.2.2 dX3_copy_201
                            · refine lv_iload hx hb dX3_copy_145 (lv_at hl 6 rfl) ?_
                              refine zi_eqB (tgt := 155) hx hb dX3_copy_147 (by decide) (fun c_147 => ?_) (fun c_147 => ?_)
                              · refine lv_iload hx hb dX3_copy_155 (lv_at hl 5 rfl) ?_
                                refine lv_iconst (v := nI 1) hx hb dX3_copy_157 (by decide) ?_
                                refine lv_isub hx hb dX3_copy_158 ?_
                                refine zti (pk_sub (a := n) (b := 1) (by omega)) ?_
                                refine lv_iload hx hb dX3_copy_159 (lv_at hl 7 rfl) ?_
                                refine lv_isub hx hb dX3_copy_161 ?_
                                refine zti (pk_sub (a := n - 1) (b := k) (by omega)) ?_
                                refine lv_istore (lv' := [(8, .int (nI ((n - 1) - k))), (0, .ref (ad 0)), (1, .int (nI x)), (2, .int (nI i)), (3, .int (nI y)), (4, .int (nI j)), (5, .int (nI n)), (6, .int (zB (j ≤ i))), (7, .int (nI k))]) hx hb dX3_copy_162 hl (by decide) rfl (fun ls hl => ?_)
                                refine lv_aload_n hx hb dX3_copy_164 rfl (lv_at hl 1 rfl) ?_
                                refine va_get (D := g.1) (ci := 3) (v := .ref (ad 3)) (C := RX3) (T := TX3) (N := 30) hx hb hts in_X3 hown hK hP 0 rfl rfl 3 (by decide) (hts _ q1300) (fun _ h9 => h9) rfl dX3_copy_165 ?_
                                refine lv_bipush (v := nI 40) hx hb dX3_copy_168 (by decide) ?_
                                refine lv_iload_n hx hb dX3_copy_170 rfl (lv_at hl 4 rfl) ?_
                                refine lv_imul hx hb dX3_copy_171 ?_
                                refine zti (pk_mul 40 y) ?_
                                refine lv_iload hx hb dX3_copy_172 (lv_at hl 5 rfl) ?_
                                refine lv_iadd hx hb dX3_copy_174 ?_
                                refine zti (nI_add (40 * y) j) ?_
                                refine lv_iload hx hb dX3_copy_175 (lv_at hl 0 rfl) ?_
                                refine lv_iadd hx hb dX3_copy_177 ?_
                                refine zti (nI_add (40 * y + j) ((n - 1) - k)) ?_
                                refine lv_aload_n hx hb dX3_copy_178 rfl (lv_at hl 1 rfl) ?_
                                refine va_get (D := g.1) (ci := 3) (v := .ref (ad 3)) (C := RX3) (T := TX3) (N := 30) hx hb hts in_X3 hown hK hP 0 rfl rfl 3 (by decide) (hts _ q1300) (fun _ h9 => h9) rfl dX3_copy_179 ?_
                                refine lv_bipush (v := nI 40) hx hb dX3_copy_182 (by decide) ?_
                                refine lv_iload_n hx hb dX3_copy_184 rfl (lv_at hl 2 rfl) ?_
                                refine lv_imul hx hb dX3_copy_185 ?_
                                refine zti (pk_mul 40 x) ?_
                                refine lv_iload_n hx hb dX3_copy_186 rfl (lv_at hl 3 rfl) ?_
                                refine lv_iadd hx hb dX3_copy_187 ?_
                                refine zti (nI_add (40 * x) i) ?_
                                refine lv_iload hx hb dX3_copy_188 (lv_at hl 0 rfl) ?_
                                refine lv_iadd hx hb dX3_copy_190 ?_
                                refine zti (nI_add (40 * x + i) ((n - 1) - k)) ?_
                                refine zald hx hb hK hP 3 0 rfl rfl (j := 40 * x + i + ((n - 1) - k)) (by omega) (by decide) dX3_copy_191 ?_
                                refine zti (show (va_cpy (S.2.2.1 3) (S.2.2.1 3) (40 * x + i + (n - k)) (40 * y + j + (n - k)) k) (40 * x + i + (n - 1 - k)) = S.2.2.1 3 (40 * x + i + (n - 1 - k)) from pk_cpy_out (by omega)) ?_
                                refine zast (f := va_cpy (S.2.2.1 3) (S.2.2.1 3) (40 * x + i + (n - k)) (40 * y + j + (n - k)) k) hx hb hK hP hD hS 3 0 rfl rfl (j := 40 * y + j + ((n - 1) - k)) (by omega) (by decide) dX3_copy_192 (fun H locs hP hD hS => ?_)
                                have hP : va_P g.1 zCL (mW g ad (va_up fi 0 (nI 0)) (va_up cn 3 (upd (va_cpy (S.2.2.1 3) (S.2.2.1 3) (40 * x + i + (n - k)) (40 * y + j + (n - k)) k) (40 * y + j + ((n - 1) - k)) (S.2.2.1 3 (40 * x + i + (n - 1 - k))))) xl) _ := hP
                                have hD : va_D (mA ad s.heap.size) (mW g ad (va_up fi 0 (nI 0)) (va_up cn 3 (upd (va_cpy (S.2.2.1 3) (S.2.2.1 3) (40 * x + i + (n - k)) (40 * y + j + (n - k)) k) (40 * y + j + ((n - 1) - k)) (S.2.2.1 3 (40 * x + i + (n - 1 - k))))) xl) := hD
                                refine lv_iinc (v := nI (k + 1)) (lv' := [(7, .int (nI (k + 1))), (8, .int (nI ((n - 1) - k))), (0, .ref (ad 0)), (1, .int (nI x)), (2, .int (nI i)), (3, .int (nI y)), (4, .int (nI j)), (5, .int (nI n)), (6, .int (zB (j ≤ i)))]) hx hb dX3_copy_193 hl (k := 8) rfl (nI_add k 1) (by decide) rfl (fun ls hl => ?_)
                                refine lv_goto (tgt := 138) hx hb dX3_copy_196 (by decide) ?_
                                rw [show upd (va_cpy (S.2.2.1 3) (S.2.2.1 3) (40 * x + i + (n - k)) (40 * y + j + (n - k)) k) (40 * y + j + (n - 1 - k)) (S.2.2.1 3 (40 * x + i + (n - 1 - k))) = va_cpy (S.2.2.1 3) (S.2.2.1 3) (40 * x + i + (n - (k + 1))) (40 * y + j + (n - (k + 1))) (k + 1) by rw [show n - k = n - 1 - k + 1 by omega, show n - (k + 1) = n - 1 - k by omega]; exact upd_cpyp (S.2.2.1 3) (S.2.2.1 3) (40 * x + i + (n - 1 - k)) (40 * y + j + (n - 1 - k)) k] at hP hD
                                exact ih_138 (by omega) _ _ _ _ _ ⟨rfl, rfl, hP, hD, hS, lv_sub hl [2, 3, 4, 5, 6, 7, 8, 0] rfl⟩
                              · exact absurd c_147 hup
                          · rw [mW_up (cn := cn) (k := 3) (f := va_cpy (S.2.2.1 3) (S.2.2.1 3) (40 * x + i + (n - 0)) (40 * y + j + (n - 0)) 0) (by rw [zcpy_0]; exact hc3)] at hP
                            rw [mW_up (cn := cn) (k := 3) (f := va_cpy (S.2.2.1 3) (S.2.2.1 3) (40 * x + i + (n - 0)) (40 * y + j + (n - 0)) 0) (by rw [zcpy_0]; exact hc3)] at hD
                            have hP : va_P g.1 zCL (mW g ad (va_up fi 0 (nI 0)) (va_up cn 3 (va_cpy (S.2.2.1 3) (S.2.2.1 3) (40 * x + i + (n - 0)) (40 * y + j + (n - 0)) 0)) xl) _ := hP
                            have hD : va_D (mA ad s.heap.size) (mW g ad (va_up fi 0 (nI 0)) (va_up cn 3 (va_cpy (S.2.2.1 3) (S.2.2.1 3) (40 * x + i + (n - 0)) (40 * y + j + (n - 0)) 0)) xl) := hD
                            exact ⟨rfl, rfl, hP, hD, hS, lv_sub hl [2, 3, 4, 5, 6, 7, 1, 0] rfl⟩
                      · refine lv_iload_n hx hb dX3_copy_122 rfl (lv_at hl 2 rfl) ?_
                        refine lv_iload hx hb dX3_copy_123 (lv_at hl 4 rfl) ?_
                        refine zc_lt (tgt := 132) hx hb (by omega) (by omega) dX3_copy_125 (by decide) (fun c_125 => ?_) (fun c_125 => ?_)
                        · refine lv_iconst (v := nI 0) hx hb dX3_copy_132 (by decide) ?_
                          exact jn_122 _ ((zB_f (by omega)).symm)
                        · refine lv_iconst (v := nI 1) hx hb dX3_copy_128 (by decide) ?_
                          refine lv_goto (tgt := 133) hx hb dX3_copy_129 (by decide) ?_
                          exact jn_122 _ ((zB_t (by omega)).symm)
                    · have hnc : ¬ zcok S (nI x) (nI i) (nI y) (nI j) (nI n) := fun z => by have h9 := z.2.2.2.2; rw [nI_toInt (by omega), nI_toInt (by omega), zn_nI (n := y) (by omega)] at h9; omega
                      refine lv_aload_n hx hb dX3_copy_116 rfl (lv_at hl 0 rfl) ?_
                      refine lv_iconst (v := nI 2) hx hb dX3_copy_117 (by decide) ?_
                      have hle_118 := hS.1
                      refine va_calli (va_runV (As := [.int (nI 2)]) (rest := []) ⟨hx, hb, hml, hown, hts⟩ (m_X3_finding l g ad (va_up fi 0 (nI 0)) cn xl _ 2) (cwV 1 hts (lw_V q1402 q1404 qs31 q69 q1405) rfl rfl rfl hdV_X3_finding ⟨Nat.le_of_ble_eq_true rfl, Nat.le_of_ble_eq_true rfl⟩) (zpreV hK hN (va_recv hK hP (ci := 3) (q0 := 0) rfl rfl) ⟨rfl, hP, hD.weaken (fun _ _ _ _ => trivial)⟩) rfl rfl hl.1 rfl (lv_room (Nat.le_of_ble_eq_true rfl)) dX3_copy_118 ⟨Nat.le_of_ble_eq_true rfl, Nat.le_of_ble_eq_true rfl⟩) hS (fun q _ h => mA_le hS.1 q h) (mA_le hS.1) (fun r_118 u t H locs ht hvm hw_118 hB hzz hkk hS => ?_)
                      obtain ⟨hP, hD⟩ := hB
                      rw [ht] at hP
                      have hD := hD.weaken (fun _ _ _ h => mA_le hle_118 _ h)
                      obtain ⟨rfl, rfl⟩ := hw_118
                      have hP : va_P g.1 zCL (mW g ad (va_up fi 0 (nI 2)) cn xl) _ := hP
                      have hD : va_D (mA ad s.heap.size) (mW g ad (va_up fi 0 (nI 2)) cn xl) := hD
                      exact W.iret (v := -1000010 - nI 2) hx hb hr (fun t ht hW => ⟨⟨-1000010 - nI 2, (va_up fi 0 (nI 2), cn, xl), rfl, (by unfold opCopy; (try rw [zn_nI (n := x) (by omega)]); (try rw [zn_nI (n := y) (by omega)]); rw [zif_t c_4, zif_t c_11, zif_f c_28, zif_t c_37, zif_t c_58, zif_f hnc]; exact ⟨rfl, ⟨rfl, hf8, hf12, hf19, hf29, hc1, hc2, hc3, hc4, hc7, hc11, hc26, hc27, hc28⟩, ⟨_, _, _, _, _, _, _, _, _, hc5, hc6, hc9, hc10, hc24, hc25, hc21, hc22, hf23⟩⟩), by rw [ht]; exact hP, hD⟩, hS.F ht⟩) hS.2.2 dX3_copy_121
          · refine lv_aload_n hx hb dX3_copy_61 rfl (lv_at hl 0 rfl) ?_
            refine lv_iconst (v := nI 5) hx hb dX3_copy_62 (by decide) ?_
            have hle_63 := hS.1
            refine va_calli (va_runV (As := [.int (nI 5)]) (rest := []) ⟨hx, hb, hml, hown, hts⟩ (m_X3_finding l g ad (va_up fi 0 (nI 0)) cn xl _ 5) (cwV 1 hts (lw_V q1402 q1404 qs31 q69 q1405) rfl rfl rfl hdV_X3_finding ⟨Nat.le_of_ble_eq_true rfl, Nat.le_of_ble_eq_true rfl⟩) (zpreV hK hN (va_recv hK hP (ci := 3) (q0 := 0) rfl rfl) ⟨rfl, hP, hD.weaken (fun _ _ _ _ => trivial)⟩) rfl rfl hl.1 rfl (lv_room (Nat.le_of_ble_eq_true rfl)) dX3_copy_63 ⟨Nat.le_of_ble_eq_true rfl, Nat.le_of_ble_eq_true rfl⟩) hS (fun q _ h => mA_le hS.1 q h) (mA_le hS.1) (fun r_63 u t H locs ht hvm hw_63 hB hzz hkk hS => ?_)
            obtain ⟨hP, hD⟩ := hB
            rw [ht] at hP
            have hD := hD.weaken (fun _ _ _ h => mA_le hle_63 _ h)
            obtain ⟨rfl, rfl⟩ := hw_63
            have hP : va_P g.1 zCL (mW g ad (va_up fi 0 (nI 5)) cn xl) _ := hP
            have hD : va_D (mA ad s.heap.size) (mW g ad (va_up fi 0 (nI 5)) cn xl) := hD
            exact W.iret (v := -1000010 - nI 5) hx hb hr (fun t ht hW => ⟨⟨-1000010 - nI 5, (va_up fi 0 (nI 5), cn, xl), rfl, (by unfold opCopy; (try rw [zn_nI (n := x) (by omega)]); (try rw [zn_nI (n := y) (by omega)]); rw [zif_t c_4, zif_t c_11, zif_f c_28, zif_t c_37, zif_f c_58]; exact ⟨rfl, ⟨rfl, hf8, hf12, hf19, hf29, hc1, hc2, hc3, hc4, hc7, hc11, hc26, hc27, hc28⟩, ⟨_, _, _, _, _, _, _, _, _, hc5, hc6, hc9, hc10, hc24, hc25, hc21, hc22, hf23⟩⟩), by rw [ht]; exact hP, hD⟩, hS.F ht⟩) hS.2.2 dX3_copy_66
        · refine lv_aload_n hx hb dX3_copy_40 rfl (lv_at hl 0 rfl) ?_
          refine lv_iconst (v := nI 1) hx hb dX3_copy_41 (by decide) ?_
          have hle_42 := hS.1
          refine va_calli (va_runV (As := [.int (nI 1)]) (rest := []) ⟨hx, hb, hml, hown, hts⟩ (m_X3_finding l g ad (va_up fi 0 (nI 0)) cn xl _ 1) (cwV 1 hts (lw_V q1402 q1404 qs31 q69 q1405) rfl rfl rfl hdV_X3_finding ⟨Nat.le_of_ble_eq_true rfl, Nat.le_of_ble_eq_true rfl⟩) (zpreV hK hN (va_recv hK hP (ci := 3) (q0 := 0) rfl rfl) ⟨rfl, hP, hD.weaken (fun _ _ _ _ => trivial)⟩) rfl rfl hl.1 rfl (lv_room (Nat.le_of_ble_eq_true rfl)) dX3_copy_42 ⟨Nat.le_of_ble_eq_true rfl, Nat.le_of_ble_eq_true rfl⟩) hS (fun q _ h => mA_le hS.1 q h) (mA_le hS.1) (fun r_42 u t H locs ht hvm hw_42 hB hzz hkk hS => ?_)
          obtain ⟨hP, hD⟩ := hB
          rw [ht] at hP
          have hD := hD.weaken (fun _ _ _ h => mA_le hle_42 _ h)
          obtain ⟨rfl, rfl⟩ := hw_42
          have hP : va_P g.1 zCL (mW g ad (va_up fi 0 (nI 1)) cn xl) _ := hP
          have hD : va_D (mA ad s.heap.size) (mW g ad (va_up fi 0 (nI 1)) cn xl) := hD
          exact W.iret (v := -1000010 - nI 1) hx hb hr (fun t ht hW => ⟨⟨-1000010 - nI 1, (va_up fi 0 (nI 1), cn, xl), rfl, (by unfold opCopy; (try rw [zn_nI (n := x) (by omega)]); (try rw [zn_nI (n := y) (by omega)]); rw [zif_t c_4, zif_t c_11, zif_f c_28, zif_f c_37]; exact ⟨rfl, ⟨rfl, hf8, hf12, hf19, hf29, hc1, hc2, hc3, hc4, hc7, hc11, hc26, hc27, hc28⟩, ⟨_, _, _, _, _, _, _, _, _, hc5, hc6, hc9, hc10, hc24, hc25, hc21, hc22, hf23⟩⟩), by rw [ht]; exact hP, hD⟩, hS.F ht⟩) hS.2.2 dX3_copy_45
    · refine lv_ldc hx hb hown (hts _ q1401) dX3_copy_14 ?_
      exact W.iret (v := -1000001) hx hb hr (fun t ht hW => ⟨⟨-1000001, (fi, cn, xl), rfl, (by unfold opCopy; rw [zif_t c_4, zif_f c_11]; exact ⟨rfl, ⟨hf0, hf8, hf12, hf19, hf29, hc1, hc2, hc3, hc4, hc7, hc11, hc26, hc27, hc28⟩, ⟨_, _, _, _, _, _, _, _, _, hc5, hc6, hc9, hc10, hc24, hc25, hc21, hc22, hf23⟩⟩), by rw [ht]; exact hP, hD⟩, hS.F ht⟩) hS.2.2 dX3_copy_16

set_option maxHeartbeats 4000000 in
set_option maxRecDepth 100000 in
theorem m_X3_root (l : Launch) (g : zG) (ad : Nat → Nat) (fi : Nat → Int32) (cn : Nat → Nat → Int32) (xl : Nat → Nat → Int64) (sz : Nat) (S : zS) (hM : MR S fi cn) (hX : MX fi cn xl) (hI : SI S) (hA24 : S.1 8 < 24) (w2 v2 : Int32) : Met l yX3_root (ws_ yX3_root cX3_root 4 (some .int)) ({ frames := 1, cells := 0, slots := 0, locals := 25 }) (zPc g [.ref (ad 0), .int w2, .int v2] (mH g ad fi cn xl sz)) (va_Qi (fun (r9 : Int32) u => r9 = (opRoot S w2 v2 ).1 ∧ MR (opRoot S w2 v2 ).2 u.1 u.2.1 ∧ MX u.1 u.2.1 u.2.2) (mB g ad sz) (mA ad sz)) 0 0 (mA ad sz) := by
  refine Met.ofW (cc := cX3_root) (maxL := 4) (ret := (some .int)) (by decide) rfl ?_
  intro p e s m args below meth c s₁ B0 hml hv
  obtain ⟨rfl, ⟨hK, hN⟩, hsz, hP, hD⟩ := hv
  have hx := B0.exec
  have hb := B0.bytes
  have hr := B0.returns
  have hts := atoms_spec (ws := ws_ yX3_root cX3_root 4 (some .int)) B0.pre
  have hts : ∀ w ∈ lw_all, w.before _ s = true := fun w h => hts w (List.mem_cons_of_mem _ h)
  have hown : s.vm.findClass RX3 = some m.cls := findClass_of_methodNamed B0.named
  have hlocks := B0.notSynchronized
  subst hsz
  have hD := mD_self s.heap.size hD
  have hS : va_S (mA ad s.heap.size) s.heap s.heap [] := va_S.rf
  have hl := lv_entry ([.ref (ad 0), .int w2, .int v2]) (n := 4) (Nat.le_of_ble_eq_true rfl)
  rw [lg_entry_eq]
  generalize (lg_sl ([.ref (ad 0), .int w2, .int v2]) ++ List.replicate (4 - (lg_sl ([.ref (ad 0), .int w2, .int v2])).length) Slot.unset).toArray = ls at hl ⊢
  have hl : lv_has ls 4 [(0, .ref (ad 0)), (1, .int w2), (2, .int v2)] := hl
  obtain ⟨hf0, hf8, hf12, hf19, hf29, hc1, hc2, hc3, hc4, hc7, hc11, hc26, hc27, hc28⟩ := hM
  obtain ⟨F5, F6, F9, F10, F24, E25, N21, N22, b23, hc5, hc6, hc9, hc10, hc24, hc25, hc21, hc22, hf23⟩ := hX
  have hB : bOK (S.2.1 4) := hI.1
  have h0 : S.2.1 4 0 ≤ 4 := hB.n4
  have h3 : S.2.1 4 3 ≤ 8 := hB.r8
  have hac := hI.2.2.1
  have hta := hI.2.2.2.1
  have hmn := hI.2.2.2.2.2.2.1
  have htn := hI.2.2.2.2.2.1
  refine lv_aload_n hx hb dX3_root_0 rfl (lv_at hl 0 rfl) ?_
  have hQ_1 : va_P g.1 zCL [(ad 0, .inr (3, mO ad fi)), (ad 4, .inl (g.2 0, 44, .inl (cn 4)))] _ := hP.sub [0, 4] rfl
  rw [show _ = _ from hc4] at hQ_1
  refine vp_callSi (W.runV (As := []) (rest := []) ⟨hx, hb, hml, hown, hts⟩ (m_X3_isThere l g ad fi (S.2.1 4) hB  ) (cwV 0 hts (lw_V q1517 q1519 qs43 q69 q1520) rfl rfl rfl hdV_X3_isThere ⟨Nat.le_of_ble_eq_true rfl, Nat.le_of_ble_eq_true rfl⟩) (zpreV hK hN (va_recv hK hP (ci := 3) (q0 := 0) rfl rfl) hQ_1) rfl rfl hl.1 rfl (lv_room (Nat.le_of_ble_eq_true rfl)) dX3_root_1 ⟨Nat.le_of_ble_eq_true rfl, Nat.le_of_ble_eq_true rfl⟩) (fun r_1 hr_1 => ?_)
  subst hr_1
  refine zi_neB (tgt := 10) hx hb dX3_root_4 (by decide) (fun c_4 => ?_) (fun c_4 => ?_)
  · refine lv_iload_n hx hb dX3_root_10 rfl (lv_at hl 1 rfl) ?_
    refine lv_i2l hx hb dX3_root_11 rfl ?_
    refine lv_lconst (v := lN 0) hx hb dX3_root_12 (by decide) ?_
    refine lv_lconst (v := lN 1) hx hb dX3_root_13 (by decide) ?_
    refine vp_callSi (W.runS (As := [.long w2.toInt64, .long (lN 0), .long (lN 1)]) (rest := []) ⟨hx, hb, hml, hown, hts⟩ (m_X3_in l g w2.toInt64 (lN 0) (lN 1)) (va_cwS 3 hts (lw_S q1397 q1398 q69 q1399) rfl rfl rfl hdS_X3_in ⟨Nat.le_of_ble_eq_true rfl, Nat.le_of_ble_eq_true rfl⟩) (zpreS hK hN trivial) rfl rfl hl.1 rfl (lv_room (Nat.le_of_ble_eq_true rfl)) dX3_root_14 ⟨Nat.le_of_ble_eq_true rfl, Nat.le_of_ble_eq_true rfl⟩) (fun r_14 hr_14 => ?_)
    subst hr_14
    refine zti (show _ = zB (zIn w2 0 1) from zB_c (zIn_l w2 (by omega) (by omega))) ?_
    refine zi_eqB (tgt := 43) hx hb dX3_root_17 (by decide) (fun c_17 => ?_) (fun c_17 => ?_)
    · refine lv_ldc hx hb hown (hts _ q1401) dX3_root_43 ?_
      exact W.iret (v := -1000001) hx hb hr (fun t ht hW => ⟨⟨-1000001, (fi, cn, xl), rfl, (by unfold opRoot; rw [zif_t c_4, zif_f c_17]; exact ⟨rfl, ⟨hf0, hf8, hf12, hf19, hf29, hc1, hc2, hc3, hc4, hc7, hc11, hc26, hc27, hc28⟩, ⟨_, _, _, _, _, _, _, _, _, hc5, hc6, hc9, hc10, hc24, hc25, hc21, hc22, hf23⟩⟩), by rw [ht]; exact hP, hD⟩, hS.F ht⟩) hS.2.2 dX3_root_45
    · obtain ⟨w, rfl, hu_w, hv_w⟩ := zIn_ex c_17 (by omega)
      refine lv_iload_n hx hb dX3_root_20 rfl (lv_at hl 2 rfl) ?_
      refine lv_i2l hx hb dX3_root_21 rfl ?_
      refine lv_iload_n hx hb dX3_root_22 rfl (lv_at hl 1 rfl) ?_
      refine lv_i2l (v := lN w) hx hb dX3_root_23 (nI_l (by omega)) ?_
      have hz39 : zif (w = 0) 3 9 ≤ 9 := zif_ind (fun z => z ≤ 9) (by decide) (by decide)
      refine zjoin (ls := ls) (α := Int64) (fun v9 => v9 = lN (zif (w = 0) 3 9)) (fun v9 => .long v9 :: [.long (lN w), .long v2.toInt64]) 37 (fun v9 hv => ?_) (fun jn_24 => ?_)
      · subst hv
        refine vp_callSi (W.runS (As := [.long v2.toInt64, .long (lN w), .long (lN (zif (w = 0) 3 9))]) (rest := []) ⟨hx, hb, hml, hown, hts⟩ (m_X3_in l g v2.toInt64 (lN w) (lN (zif (w = 0) 3 9))) (va_cwS 3 hts (lw_S q1397 q1398 q69 q1399) rfl rfl rfl hdS_X3_in ⟨Nat.le_of_ble_eq_true rfl, Nat.le_of_ble_eq_true rfl⟩) (zpreS hK hN trivial) rfl rfl hl.1 rfl (lv_room (Nat.le_of_ble_eq_true rfl)) dX3_root_37 ⟨Nat.le_of_ble_eq_true rfl, Nat.le_of_ble_eq_true rfl⟩) (fun r_37 hr_37 => ?_)
        subst hr_37
        refine zti (show _ = zB (zIn v2 ((w : Nat) : Int) ((zif (w = 0) 3 9 : Nat) : Int)) from zB_c (zIn_l v2 (by omega) (by omega))) ?_
        refine zi_neB (tgt := 46) hx hb dX3_root_40 (by decide) (fun c_40 => ?_) (fun c_40 => ?_)
        · obtain ⟨v, rfl, hu_v, hv_v⟩ := zIn_ex c_40 (by omega)
          refine lv_aload_n hx hb dX3_root_46 rfl (lv_at hl 0 rfl) ?_
          have hle_47 := hS.1
          refine va_callv (va_runV (As := []) (rest := []) ⟨hx, hb, hml, hown, hts⟩ (m_X3_keeps l g ad fi cn xl _ (S.2.1 4) (S.2.1 7) (S.1 8) hc4 hc7 hf8 (by omega)) (cwV 0 hts (lw_V q1493 q1495 qs42 q69 q1496) rfl rfl rfl hdV_X3_keeps ⟨Nat.le_of_ble_eq_true rfl, Nat.le_of_ble_eq_true rfl⟩) (zpreV hK hN (va_recv hK hP (ci := 3) (q0 := 0) rfl rfl) ⟨rfl, hP, hD.weaken (fun _ _ _ _ => trivial)⟩) rfl rfl hl.1 rfl (lv_room (Nat.le_of_ble_eq_true rfl)) dX3_root_47 ⟨Nat.le_of_ble_eq_true rfl, Nat.le_of_ble_eq_true rfl⟩) hS (fun q _ h => mA_le hS.1 q h) (mA_le hS.1) (fun u t H locs ht hvm hw_47 hB hzz hkk hS => ?_)
          obtain ⟨hP, hD⟩ := hB
          rw [ht] at hP
          have hD := hD.weaken (fun _ _ _ h => mA_le hle_47 _ h)
          obtain ⟨_, rfl⟩ := hw_47
          have hP : va_P g.1 zCL (mW g ad (va_up fi 8 (nI (S.1 8 + 1))) (va_up cn 7 (nF (va_cpy (S.2.1 4) (S.2.1 7) 0 (44 * (S.1 8)) 44))) xl) _ := hP
          have hD : va_D (mA ad s.heap.size) (mW g ad (va_up fi 8 (nI (S.1 8 + 1))) (va_up cn 7 (nF (va_cpy (S.2.1 4) (S.2.1 7) 0 (44 * (S.1 8)) 44))) xl) := hD
          refine lv_aload_n hx hb dX3_root_50 rfl (lv_at hl 0 rfl) ?_
          refine va_get (D := g.1) (ci := 3) (v := .ref (ad 4)) (C := RX3) (T := TX3) (N := 30) hx hb hts in_X3 hown hK hP 0 rfl rfl 4 (by decide) (hts _ q1301) (fun _ h9 => h9) rfl dX3_root_51 ?_
          refine lv_iconst (v := nI 1) hx hb dX3_root_54 (by decide) ?_
          refine lv_iload_n hx hb dX3_root_55 rfl (lv_at hl 1 rfl) ?_
          refine lv_iadd hx hb dX3_root_56 ?_
          refine zti (nI_add 1 w) ?_
          refine zald hx hb hK hP 4 0 rfl rfl (j := 1 + w) (by omega) (by decide) dX3_root_57 ?_
          refine zti (congrFun hc4 _) ?_
          refine zti (show (nF (S.2.1 4)) (1 + w) = nI ((S.2.1 4) (1 + w)) from rfl) ?_
          refine lv_istore_n (lv' := [(3, .int (nI ((S.2.1 4) (1 + w)))), (0, .ref (ad 0)), (1, .int (nI w)), (2, .int (nI v))]) hx hb dX3_root_58 rfl hl (by decide) rfl (fun ls hl => ?_)
          refine lv_aload_n hx hb dX3_root_59 rfl (lv_at hl 1 rfl) ?_
          refine va_get (D := g.1) (ci := 3) (v := .ref (ad 4)) (C := RX3) (T := TX3) (N := 30) hx hb hts in_X3 hown hK hP 0 rfl rfl 4 (by decide) (hts _ q1301) (fun _ h9 => h9) rfl dX3_root_60 ?_
          refine lv_iconst (v := nI 1) hx hb dX3_root_63 (by decide) ?_
          refine lv_iload_n hx hb dX3_root_64 rfl (lv_at hl 2 rfl) ?_
          refine lv_iadd hx hb dX3_root_65 ?_
          refine zti (nI_add 1 w) ?_
          refine lv_iload_n hx hb dX3_root_66 rfl (lv_at hl 3 rfl) ?_
          refine zast (f := cn 4) hx hb hK hP hD hS 4 0 rfl rfl (j := 1 + w) (by omega) (by decide) dX3_root_67 (fun H locs hP hD hS => ?_)
          rw [hc4] at hP hD
          rw [nF_up] at hP hD
          have hP : va_P g.1 zCL (mW g ad (va_up fi 8 (nI (S.1 8 + 1))) (va_up (va_up cn 4 (nF (va_up (S.2.1 4) (1 + w) v))) 7 (nF (va_cpy (S.2.1 4) (S.2.1 7) 0 (44 * (S.1 8)) 44))) xl) _ := hP
          have hD : va_D (mA ad s.heap.size) (mW g ad (va_up fi 8 (nI (S.1 8 + 1))) (va_up (va_up cn 4 (nF (va_up (S.2.1 4) (1 + w) v))) 7 (nF (va_cpy (S.2.1 4) (S.2.1 7) 0 (44 * (S.1 8)) 44))) xl) := hD
          refine lv_iload_n hx hb dX3_root_68 rfl (lv_at hl 0 rfl) ?_
          exact W.iret (v := nI ((S.2.1 4) (1 + w))) hx hb hr (fun t ht hW => ⟨⟨nI ((S.2.1 4) (1 + w)), (va_up fi 8 (nI (S.1 8 + 1)), va_up (va_up cn 4 (nF (va_up (S.2.1 4) (1 + w) v))) 7 (nF (va_cpy (S.2.1 4) (S.2.1 7) 0 (44 * (S.1 8)) 44)), xl), rfl, (by unfold opRoot; (try rw [zn_nI (n := w) (by omega)]); (try rw [zn_nI (n := v) (by omega)]); rw [zif_t c_4, zif_t c_17, zif_t c_40]; exact ⟨rfl, ⟨hf0, rfl, hf12, hf19, hf29, hc1, hc2, hc3, rfl, rfl, hc11, hc26, hc27, hc28⟩, ⟨_, _, _, _, _, _, _, _, _, hc5, hc6, hc9, hc10, hc24, hc25, hc21, hc22, hf23⟩⟩), by rw [ht]; exact hP, hD⟩, hS.F ht⟩) hS.2.2 dX3_root_69
        · refine lv_ldc hx hb hown (hts _ q1401) dX3_root_43 ?_
          exact W.iret (v := -1000001) hx hb hr (fun t ht hW => ⟨⟨-1000001, (fi, cn, xl), rfl, (by unfold opRoot; (try rw [zn_nI (n := w) (by omega)]); rw [zif_t c_4, zif_t c_17, zif_f c_40]; exact ⟨rfl, ⟨hf0, hf8, hf12, hf19, hf29, hc1, hc2, hc3, hc4, hc7, hc11, hc26, hc27, hc28⟩, ⟨_, _, _, _, _, _, _, _, _, hc5, hc6, hc9, hc10, hc24, hc25, hc21, hc22, hf23⟩⟩), by rw [ht]; exact hP, hD⟩, hS.F ht⟩) hS.2.2 dX3_root_45
      · refine lv_iload_n hx hb dX3_root_24 rfl (lv_at hl 1 rfl) ?_
        refine zi_ne (tgt := 34) hx hb (by omega) dX3_root_25 (by decide) (fun c_25 => ?_) (fun c_25 => ?_)
        · refine lv_ldc2 hx hb hown (hts _ q1504) dX3_root_34 ?_
          refine ztl (show (9 : Int64) = lN 9 from rfl) ?_
          exact jn_24 _ ((congrArg lN (zif_f c_25)).symm)
        · refine lv_ldc2 hx hb hown (hts _ q1521) dX3_root_28 ?_
          refine ztl (show (3 : Int64) = lN 3 from rfl) ?_
          refine lv_goto (tgt := 37) hx hb dX3_root_31 (by decide) ?_
          exact jn_24 _ ((congrArg lN (zif_t c_25)).symm)
  · refine lv_ldc hx hb hown (hts _ q1475) dX3_root_7 ?_
    exact W.iret (v := -1000002) hx hb hr (fun t ht hW => ⟨⟨-1000002, (fi, cn, xl), rfl, (by unfold opRoot; rw [zif_f c_4]; exact ⟨rfl, ⟨hf0, hf8, hf12, hf19, hf29, hc1, hc2, hc3, hc4, hc7, hc11, hc26, hc27, hc28⟩, ⟨_, _, _, _, _, _, _, _, _, hc5, hc6, hc9, hc10, hc24, hc25, hc21, hc22, hf23⟩⟩), by rw [ht]; exact hP, hD⟩, hS.F ht⟩) hS.2.2 dX3_root_9
