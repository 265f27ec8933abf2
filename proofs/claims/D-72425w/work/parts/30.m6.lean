/-! the twin: writers, 1 -/
set_option maxHeartbeats 4000000 in
set_option maxRecDepth 100000 in
theorem m_X3_finding (l : Launch) (g : zG) (ad : Nat → Nat) (fi : Nat → Int32) (cn : Nat → Nat → Int32) (xl : Nat → Nat → Int64) (sz : Nat) (n : Nat) : Met l yX3_finding (ws_ yX3_finding cX3_finding 2 (some .int)) ({ frames := 0, cells := 0, slots := 0, locals := 0 }) (zPc g [.ref (ad 0), .int (nI n)] (mH g ad fi cn xl sz)) (va_Qi (fun r u => r = -1000010 - nI n ∧ u = (va_up fi 0 (nI n), cn, xl)) (mB g ad sz) (mA ad sz)) 0 0 (mA ad sz) := by
  refine Met.ofW (cc := cX3_finding) (maxL := 2) (ret := (some .int)) (by decide) rfl ?_
  intro p e s m args below meth c s₁ B0 hml hv
  obtain ⟨rfl, ⟨hK, hN⟩, hsz, hP, hD⟩ := hv
  have hx := B0.exec
  have hb := B0.bytes
  have hr := B0.returns
  have hts := atoms_spec (ws := ws_ yX3_finding cX3_finding 2 (some .int)) B0.pre
  have hts : ∀ w ∈ lw_all, w.before _ s = true := fun w h => hts w (List.mem_cons_of_mem _ h)
  have hown : s.vm.findClass RX3 = some m.cls := findClass_of_methodNamed B0.named
  have hlocks := B0.notSynchronized
  subst hsz
  have hD := mD_self s.heap.size hD
  have hS : va_S (mA ad s.heap.size) s.heap s.heap [] := va_S.rf
  have hl := lv_entry ([.ref (ad 0), .int (nI n)]) (n := 2) (Nat.le_of_ble_eq_true rfl)
  rw [lg_entry_eq]
  generalize (lg_sl ([.ref (ad 0), .int (nI n)]) ++ List.replicate (2 - (lg_sl ([.ref (ad 0), .int (nI n)])).length) Slot.unset).toArray = ls at hl ⊢
  have hl : lv_has ls 2 [(0, .ref (ad 0)), (1, .int (nI n))] := hl
  refine lv_aload_n hx hb dX3_finding_0 rfl (lv_at hl 0 rfl) ?_
  refine lv_iload_n hx hb dX3_finding_1 rfl (lv_at hl 1 rfl) ?_
  refine va_put (D := g.1) (ci := 3) (v := .int (nI n)) (ty := .int) (C := RX3) (T := TX3) (N := 30) hx hb hts in_X3 tyX3 tyX3_ok nmX3 hown hK hP hD hS 0 rfl rfl 0 (by decide) (hts _ q1297) (fun _ h9 => h9) rfl (by decide +kernel) rfl rfl (Nat.le_of_ble_eq_true rfl) dX3_finding_2 (fun H locs hP hD hS => ?_)
  have hP : va_P g.1 zCL (mW g ad (va_up fi 0 (nI n)) cn xl) _ := hP
  have hD : va_D (mA ad s.heap.size) (mW g ad (va_up fi 0 (nI n)) cn xl) := hD
  refine lv_ldc hx hb hown (hts _ q1406) dX3_finding_5 ?_
  refine lv_iload_n hx hb dX3_finding_7 rfl (lv_at hl 1 rfl) ?_
  refine lv_isub hx hb dX3_finding_8 ?_
  exact W.iret (v := (-1000010) - (nI n)) hx hb hr (fun t ht hW => ⟨⟨(-1000010) - (nI n), (va_up fi 0 (nI n), cn, xl), rfl, ⟨rfl, rfl⟩, by rw [ht]; exact hP, hD⟩, hS.F ht⟩) hS.2.2 dX3_finding_9

set_option maxHeartbeats 4000000 in
set_option maxRecDepth 100000 in
theorem m_X3_layThen (l : Launch) (g : zG) (ad : Nat → Nat) (fi : Nat → Int32) (cn : Nat → Nat → Int32) (xl : Nat → Nat → Int64) (sz : Nat) (B T : Nat → Nat) (hc4 : cn 4 = nF B) (hc6 : cn 6 = nF T) : Met l yX3_layThen (ws_ yX3_layThen cX3_layThen 2 none) ({ frames := 0, cells := 0, slots := 0, locals := 0 }) (zPc g [.ref (ad 0)] (mH g ad fi cn xl sz)) (va_Qv (fun u => True ∧ u = (fi, va_up cn 6 (nF B), xl)) (mB g ad sz) (mA ad sz)) 0 0 (mA ad sz) := by
  refine Met.ofW (cc := cX3_layThen) (maxL := 2) (ret := none) (by decide) rfl ?_
  intro p e s m args below meth c s₁ B0 hml hv
  obtain ⟨rfl, ⟨hK, hN⟩, hsz, hP, hD⟩ := hv
  have hx := B0.exec
  have hb := B0.bytes
  have hr := B0.returns
  have hts := atoms_spec (ws := ws_ yX3_layThen cX3_layThen 2 none) B0.pre
  have hts : ∀ w ∈ lw_all, w.before _ s = true := fun w h => hts w (List.mem_cons_of_mem _ h)
  have hown : s.vm.findClass RX3 = some m.cls := findClass_of_methodNamed B0.named
  have hlocks := B0.notSynchronized
  subst hsz
  have hD := mD_self s.heap.size hD
  have hS : va_S (mA ad s.heap.size) s.heap s.heap [] := va_S.rf
  have hl := lv_entry ([.ref (ad 0)]) (n := 2) (Nat.le_of_ble_eq_true rfl)
  rw [lg_entry_eq]
  generalize (lg_sl ([.ref (ad 0)]) ++ List.replicate (2 - (lg_sl ([.ref (ad 0)])).length) Slot.unset).toArray = ls at hl ⊢
  have hl : lv_has ls 2 [(0, .ref (ad 0))] := hl
  refine lv_iconst (v := nI 0) hx hb dX3_layThen_0 (by decide) ?_
  refine lv_istore_n (lv' := [(1, .int (nI 0)), (0, .ref (ad 0))]) hx hb dX3_layThen_1 rfl hl (by decide) rfl (fun ls hl => ?_)
  refine zloopW (head := 2) (44) (fun k H locs cells slots ls => cells = 0 ∧ slots = 0 ∧ va_P g.1 zCL (mW g ad fi (va_up cn 6 (nF (va_cpy B T 0 0 k))) xl) H ∧ va_D (mA ad s.heap.size) (mW g ad fi (va_up cn 6 (nF (va_cpy B T 0 0 k))) xl) ∧ va_S (mA ad s.heap.size) s.heap H locs ∧ lv_has ls 2 [(0, .ref (ad 0)), (1, .int (nI k))]) (fun k hv_k ih_2 H locs cells slots ls hI => ?_) 0 (Nat.zero_le _) ?_
  · obtain ⟨rfl, rfl, hP, hD, hS, hl⟩ := hI
    refine lv_iload_n hx hb dX3_layThen_2 rfl (lv_at hl 1 rfl) ?_
    refine lv_bipush (v := nI 44) hx hb dX3_layThen_3 (by decide) ?_
    refine zc_ge (tgt := 26) hx hb (by omega) (by omega) dX3_layThen_5 (by decide) (fun c_5 => ?_) (fun c_5 => ?_)
    · obtain rfl : 44 = k := by omega
      obtain ⟨hP, hD⟩ := hP.exi hD 6 (f' := nF B) rfl (fun j hj => by show nI (va_cpy B T 0 0 44 j) = nI (B j); rw [zcpy_in (by omega) (by omega)]; rw [Nat.zero_add, Nat.sub_zero])
      have hP : va_P g.1 zCL (mW g ad fi (va_up cn 6 (nF B)) xl) _ := hP
      have hD : va_D (mA ad s.heap.size) (mW g ad fi (va_up cn 6 (nF B)) xl) := hD
      exact W.vret hx hb hr (fun t ht hW => ⟨⟨(fi, va_up cn 6 (nF B), xl), rfl, ⟨trivial, rfl⟩, by rw [ht]; exact hP, hD⟩, hS.F ht⟩) hS.2.2 dX3_layThen_26
    · refine lv_aload_n hx hb dX3_layThen_8 rfl (lv_at hl 0 rfl) ?_
      refine va_get (D := g.1) (ci := 3) (v := .ref (ad 6)) (C := RX3) (T := TX3) (N := 30) hx hb hts in_X3 hown hK hP 0 rfl rfl 6 (by decide) (hts _ q1303) (fun _ h9 => h9) rfl dX3_layThen_9 ?_
      refine lv_iload_n hx hb dX3_layThen_12 rfl (lv_at hl 1 rfl) ?_
      refine lv_aload_n hx hb dX3_layThen_13 rfl (lv_at hl 0 rfl) ?_
      refine va_get (D := g.1) (ci := 3) (v := .ref (ad 4)) (C := RX3) (T := TX3) (N := 30) hx hb hts in_X3 hown hK hP 0 rfl rfl 4 (by decide) (hts _ q1301) (fun _ h9 => h9) rfl dX3_layThen_14 ?_
      refine lv_iload_n hx hb dX3_layThen_17 rfl (lv_at hl 1 rfl) ?_
      refine zald hx hb hK hP 4 0 rfl rfl (j := k) (by omega) (by decide) dX3_layThen_18 ?_
      refine zti (congrFun hc4 _) ?_
      refine zti (show (nF B) k = nI (B k) from rfl) ?_
      refine zast (f := nF (va_cpy B T 0 0 k)) hx hb hK hP hD hS 6 0 rfl rfl (j := k) (by omega) (by decide) dX3_layThen_19 (fun H locs hP hD hS => ?_)
      rw [nF_up] at hP hD
      have hP : va_P g.1 zCL (mW g ad fi (va_up cn 6 (nF (va_up (va_cpy B T 0 0 k) k (B k)))) xl) _ := hP
      have hD : va_D (mA ad s.heap.size) (mW g ad fi (va_up cn 6 (nF (va_up (va_cpy B T 0 0 k) k (B k)))) xl) := hD
      refine lv_iinc (v := nI (k + 1)) (lv' := [(1, .int (nI (k + 1))), (0, .ref (ad 0))]) hx hb dX3_layThen_20 hl (k := 1) rfl (nI_add k 1) (by decide) rfl (fun ls hl => ?_)
      refine lv_goto (tgt := 2) hx hb dX3_layThen_23 (by decide) ?_
      rw [show va_up (va_cpy B T 0 0 k) k (B k) = va_cpy B T 0 0 (k + 1) by have := zcpy_s B T 0 0 k; rw [Nat.zero_add] at this; exact this] at hP hD
      exact ih_2 (by omega) _ _ _ _ _ ⟨rfl, rfl, hP, hD, hS, lv_sub hl [1, 0] rfl⟩
  · rw [mW_up (cn := cn) (k := 6) (f := nF (va_cpy B T 0 0 0)) (by rw [zcpy_0]; exact hc6)] at hP
    rw [mW_up (cn := cn) (k := 6) (f := nF (va_cpy B T 0 0 0)) (by rw [zcpy_0]; exact hc6)] at hD
    have hP : va_P g.1 zCL (mW g ad fi (va_up cn 6 (nF (va_cpy B T 0 0 0))) xl) _ := hP
    have hD : va_D (mA ad s.heap.size) (mW g ad fi (va_up cn 6 (nF (va_cpy B T 0 0 0))) xl) := hD
    exact ⟨rfl, rfl, hP, hD, hS, lv_sub hl [1, 0] rfl⟩

set_option maxHeartbeats 4000000 in
set_option maxRecDepth 100000 in
theorem m_X3_keeps (l : Launch) (g : zG) (ad : Nat → Nat) (fi : Nat → Int32) (cn : Nat → Nat → Int32) (xl : Nat → Nat → Int64) (sz : Nat) (B V : Nat → Nat) (ac : Nat) (hc4 : cn 4 = nF B) (hc7 : cn 7 = nF V) (hf8 : fi 8 = nI ac) (h24 : ac < 24) : Met l yX3_keeps (ws_ yX3_keeps cX3_keeps 2 none) ({ frames := 0, cells := 0, slots := 0, locals := 0 }) (zPc g [.ref (ad 0)] (mH g ad fi cn xl sz)) (va_Qv (fun u => True ∧ u = (va_up fi 8 (nI (ac + 1)), va_up cn 7 (nF (va_cpy B V 0 (44 * ac) 44)), xl)) (mB g ad sz) (mA ad sz)) 0 0 (mA ad sz) := by
  refine Met.ofW (cc := cX3_keeps) (maxL := 2) (ret := none) (by decide) rfl ?_
  intro p e s m args below meth c s₁ B0 hml hv
  obtain ⟨rfl, ⟨hK, hN⟩, hsz, hP, hD⟩ := hv
  have hx := B0.exec
  have hb := B0.bytes
  have hr := B0.returns
  have hts := atoms_spec (ws := ws_ yX3_keeps cX3_keeps 2 none) B0.pre
  have hts : ∀ w ∈ lw_all, w.before _ s = true := fun w h => hts w (List.mem_cons_of_mem _ h)
  have hown : s.vm.findClass RX3 = some m.cls := findClass_of_methodNamed B0.named
  have hlocks := B0.notSynchronized
  subst hsz
  have hD := mD_self s.heap.size hD
  have hS : va_S (mA ad s.heap.size) s.heap s.heap [] := va_S.rf
  have hl := lv_entry ([.ref (ad 0)]) (n := 2) (Nat.le_of_ble_eq_true rfl)
  rw [lg_entry_eq]
  generalize (lg_sl ([.ref (ad 0)]) ++ List.replicate (2 - (lg_sl ([.ref (ad 0)])).length) Slot.unset).toArray = ls at hl ⊢
  have hl : lv_has ls 2 [(0, .ref (ad 0))] := hl
  refine lv_aload_n hx hb dX3_keeps_0 rfl (lv_at hl 0 rfl) ?_
  refine va_get (D := g.1) (ci := 3) (v := .int (fi 8)) (C := RX3) (T := TX3) (N := 30) hx hb hts in_X3 hown hK hP 0 rfl rfl 8 (by decide) (hts _ q1305) (fun _ h9 => h9) rfl dX3_keeps_1 ?_
  refine zti (hf8) ?_
  refine lv_bipush (v := nI 24) hx hb dX3_keeps_4 (by decide) ?_
  refine zc_ne (tgt := 49) hx hb (by omega) (by omega) dX3_keeps_6 (by decide) (fun c_6 => ?_) (fun c_6 => ?_)
  · refine lv_iconst (v := nI 0) hx hb dX3_keeps_49 (by decide) ?_
    refine lv_istore_n (lv' := [(1, .int (nI 0)), (0, .ref (ad 0))]) hx hb dX3_keeps_50 rfl hl (by decide) rfl (fun ls hl => ?_)
    refine zloopW (head := 51) (44) (fun k H locs cells slots ls => cells = 0 ∧ slots = 0 ∧ va_P g.1 zCL (mW g ad fi (va_up cn 7 (nF (va_cpy B V 0 (44 * ac) k))) xl) H ∧ va_D (mA ad s.heap.size) (mW g ad fi (va_up cn 7 (nF (va_cpy B V 0 (44 * ac) k))) xl) ∧ va_S (mA ad s.heap.size) s.heap H locs ∧ lv_has ls 2 [(0, .ref (ad 0)), (1, .int (nI k))]) (fun k hv_k ih_51 H locs cells slots ls hI => ?_) 0 (Nat.zero_le _) ?_
    · obtain ⟨rfl, rfl, hP, hD, hS, hl⟩ := hI
      refine lv_iload_n hx hb dX3_keeps_51 rfl (lv_at hl 1 rfl) ?_
      refine lv_bipush (v := nI 44) hx hb dX3_keeps_52 (by decide) ?_
      refine zc_ge (tgt := 83) hx hb (by omega) (by omega) dX3_keeps_54 (by decide) (fun c_54 => ?_) (fun c_54 => ?_)
      · obtain rfl : 44 = k := by omega
        refine lv_aload_n hx hb dX3_keeps_83 rfl (lv_at hl 0 rfl) ?_
        refine lv_dup hx hb dX3_keeps_84 rfl ?_
        refine va_get (D := g.1) (ci := 3) (v := .int (fi 8)) (C := RX3) (T := TX3) (N := 30) hx hb hts in_X3 hown hK hP 0 rfl rfl 8 (by decide) (hts _ q1305) (fun _ h9 => h9) rfl dX3_keeps_85 ?_
        refine zti (hf8) ?_
        refine lv_iconst (v := nI 1) hx hb dX3_keeps_88 (by decide) ?_
        refine lv_iadd hx hb dX3_keeps_89 ?_
        refine zti (nI_add ac 1) ?_
        refine va_put (D := g.1) (ci := 3) (v := .int (nI (ac + 1))) (ty := .int) (C := RX3) (T := TX3) (N := 30) hx hb hts in_X3 tyX3 tyX3_ok nmX3 hown hK hP hD hS 0 rfl rfl 8 (by decide) (hts _ q1305) (fun _ h9 => h9) rfl (by decide +kernel) rfl rfl (Nat.le_of_ble_eq_true rfl) dX3_keeps_90 (fun H locs hP hD hS => ?_)
        have hP : va_P g.1 zCL (mW g ad (va_up fi 8 (nI (ac + 1))) (va_up cn 7 (nF (va_cpy B V 0 (44 * ac) 44))) xl) _ := hP
        have hD : va_D (mA ad s.heap.size) (mW g ad (va_up fi 8 (nI (ac + 1))) (va_up cn 7 (nF (va_cpy B V 0 (44 * ac) 44))) xl) := hD
        exact W.vret hx hb hr (fun t ht hW => ⟨⟨(va_up fi 8 (nI (ac + 1)), va_up cn 7 (nF (va_cpy B V 0 (44 * ac) 44)), xl), rfl, ⟨trivial, rfl⟩, by rw [ht]; exact hP, hD⟩, hS.F ht⟩) hS.2.2 dX3_keeps_93
      · refine lv_aload_n hx hb dX3_keeps_57 rfl (lv_at hl 0 rfl) ?_
        refine va_get (D := g.1) (ci := 3) (v := .ref (ad 7)) (C := RX3) (T := TX3) (N := 30) hx hb hts in_X3 hown hK hP 0 rfl rfl 7 (by decide) (hts _ q1304) (fun _ h9 => h9) rfl dX3_keeps_58 ?_
        refine lv_bipush (v := nI 44) hx hb dX3_keeps_61 (by decide) ?_
        refine lv_aload_n hx hb dX3_keeps_63 rfl (lv_at hl 0 rfl) ?_
        refine va_get (D := g.1) (ci := 3) (v := .int (fi 8)) (C := RX3) (T := TX3) (N := 30) hx hb hts in_X3 hown hK hP 0 rfl rfl 8 (by decide) (hts _ q1305) (fun _ h9 => h9) rfl dX3_keeps_64 ?_
        refine zti (hf8) ?_
        refine lv_imul hx hb dX3_keeps_67 ?_
        refine zti (pk_mul 44 ac) ?_
        refine lv_iload_n hx hb dX3_keeps_68 rfl (lv_at hl 1 rfl) ?_
        refine lv_iadd hx hb dX3_keeps_69 ?_
        refine zti (nI_add (44 * ac) k) ?_
        refine lv_aload_n hx hb dX3_keeps_70 rfl (lv_at hl 0 rfl) ?_
        refine va_get (D := g.1) (ci := 3) (v := .ref (ad 4)) (C := RX3) (T := TX3) (N := 30) hx hb hts in_X3 hown hK hP 0 rfl rfl 4 (by decide) (hts _ q1301) (fun _ h9 => h9) rfl dX3_keeps_71 ?_
        refine lv_iload_n hx hb dX3_keeps_74 rfl (lv_at hl 1 rfl) ?_
        refine zald hx hb hK hP 4 0 rfl rfl (j := k) (by omega) (by decide) dX3_keeps_75 ?_
        refine zti (congrFun hc4 _) ?_
        refine zti (show (nF B) k = nI (B k) from rfl) ?_
        refine zast (f := nF (va_cpy B V 0 (44 * ac) k)) hx hb hK hP hD hS 7 0 rfl rfl (j := 44 * ac + k) (by omega) (by decide) dX3_keeps_76 (fun H locs hP hD hS => ?_)
        rw [nF_up] at hP hD
        have hP : va_P g.1 zCL (mW g ad fi (va_up cn 7 (nF (va_up (va_cpy B V 0 (44 * ac) k) (44 * ac + k) (B k)))) xl) _ := hP
        have hD : va_D (mA ad s.heap.size) (mW g ad fi (va_up cn 7 (nF (va_up (va_cpy B V 0 (44 * ac) k) (44 * ac + k) (B k)))) xl) := hD
        refine lv_iinc (v := nI (k + 1)) (lv' := [(1, .int (nI (k + 1))), (0, .ref (ad 0))]) hx hb dX3_keeps_77 hl (k := 1) rfl (nI_add k 1) (by decide) rfl (fun ls hl => ?_)
        refine lv_goto (tgt := 51) hx hb dX3_keeps_80 (by decide) ?_
        rw [show va_up (va_cpy B V 0 (44 * ac) k) (44 * ac + k) (B k) = va_cpy B V 0 (44 * ac) (k + 1) from by have := zcpy_s B V 0 (44 * ac) k; rw [Nat.zero_add] at this; exact this] at hP hD
        exact ih_51 (by omega) _ _ _ _ _ ⟨rfl, rfl, hP, hD, hS, lv_sub hl [1, 0] rfl⟩
    · rw [mW_up (cn := cn) (k := 7) (f := nF (va_cpy B V 0 (44 * ac) 0)) (by rw [zcpy_0]; exact hc7)] at hP
      rw [mW_up (cn := cn) (k := 7) (f := nF (va_cpy B V 0 (44 * ac) 0)) (by rw [zcpy_0]; exact hc7)] at hD
      have hP : va_P g.1 zCL (mW g ad fi (va_up cn 7 (nF (va_cpy B V 0 (44 * ac) 0))) xl) _ := hP
      have hD : va_D (mA ad s.heap.size) (mW g ad fi (va_up cn 7 (nF (va_cpy B V 0 (44 * ac) 0))) xl) := hD
      exact ⟨rfl, rfl, hP, hD, hS, lv_sub hl [1, 0] rfl⟩
  · omega

set_option maxHeartbeats 4000000 in
set_option maxRecDepth 100000 in
theorem m_X3_lacks (l : Launch) (g : zG) (ad : Nat → Nat) (fi : Nat → Int32) (cn : Nat → Nat → Int32) (xl : Nat → Nat → Int64) (sz : Nat) (la : Nat → Int32) (mn : Nat → Nat) (hc1 : cn 1 = la) (hc2 : cn 2 = nF mn) (r n : Nat) (hr8 : r < 8) (hmn : mn r ≤ 40) (hn40 : n ≤ 40)  : Met l yX3_lacks (ws_ yX3_lacks cX3_lacks 3 (some .int)) ({ frames := 1, cells := 0, slots := 0, locals := 21 }) (zPc g [.ref (ad 0), .int (nI r), .int (nI n)] (mH g ad fi cn xl sz)) (va_Qi (fun r2 u => r2 = zres (zlk la mn r n) ∧ u = (va_up fi 0 (nI (zlk la mn r n)), cn, xl)) (mB g ad sz) (mA ad sz)) 0 0 (mA ad sz) := by
  refine Met.ofW (cc := cX3_lacks) (maxL := 3) (ret := (some .int)) (by decide) rfl ?_
  intro p e s m args below meth c s₁ B0 hml hv
  obtain ⟨rfl, ⟨hK, hN⟩, hsz, hP, hD⟩ := hv
  have hx := B0.exec
  have hb := B0.bytes
  have hr := B0.returns
  have hts := atoms_spec (ws := ws_ yX3_lacks cX3_lacks 3 (some .int)) B0.pre
  have hts : ∀ w ∈ lw_all, w.before _ s = true := fun w h => hts w (List.mem_cons_of_mem _ h)
  have hown : s.vm.findClass RX3 = some m.cls := findClass_of_methodNamed B0.named
  have hlocks := B0.notSynchronized
  subst hsz
  have hD := mD_self s.heap.size hD
  have hS : va_S (mA ad s.heap.size) s.heap s.heap [] := va_S.rf
  have hl := lv_entry ([.ref (ad 0), .int (nI r), .int (nI n)]) (n := 3) (Nat.le_of_ble_eq_true rfl)
  rw [lg_entry_eq]
  generalize (lg_sl ([.ref (ad 0), .int (nI r), .int (nI n)]) ++ List.replicate (3 - (lg_sl ([.ref (ad 0), .int (nI r), .int (nI n)])).length) Slot.unset).toArray = ls at hl ⊢
  have hl : lv_has ls 3 [(0, .ref (ad 0)), (1, .int (nI r)), (2, .int (nI n))] := hl
  refine lv_aload_n hx hb dX3_lacks_0 rfl (lv_at hl 0 rfl) ?_
  refine lv_iconst (v := nI 0) hx hb dX3_lacks_1 (by decide) ?_
  refine va_put (D := g.1) (ci := 3) (v := .int (nI 0)) (ty := .int) (C := RX3) (T := TX3) (N := 30) hx hb hts in_X3 tyX3 tyX3_ok nmX3 hown hK hP hD hS 0 rfl rfl 0 (by decide) (hts _ q1297) (fun _ h9 => h9) rfl (by decide +kernel) rfl rfl (Nat.le_of_ble_eq_true rfl) dX3_lacks_2 (fun H locs hP hD hS => ?_)
  have hP : va_P g.1 zCL (mW g ad (va_up fi 0 (nI 0)) cn xl) _ := hP
  have hD : va_D (mA ad s.heap.size) (mW g ad (va_up fi 0 (nI 0)) cn xl) := hD
  refine lv_aload_n hx hb dX3_lacks_5 rfl (lv_at hl 0 rfl) ?_
  refine va_get (D := g.1) (ci := 3) (v := .ref (ad 1)) (C := RX3) (T := TX3) (N := 30) hx hb hts in_X3 hown hK hP 0 rfl rfl 1 (by decide) (hts _ q1298) (fun _ h9 => h9) rfl dX3_lacks_6 ?_
  refine lv_iload_n hx hb dX3_lacks_9 rfl (lv_at hl 1 rfl) ?_
  refine zald hx hb hK hP 1 0 rfl rfl (j := r) (by omega) (by decide) dX3_lacks_10 ?_
  refine zti (congrFun hc1 _) ?_
  refine lv_if_ge (tgt := 20) hx hb dX3_lacks_11 (by decide) (fun c_11 => ?_) (fun c_11 => ?_)
  · refine lv_iload_n hx hb dX3_lacks_20 rfl (lv_at hl 2 rfl) ?_
    refine lv_aload_n hx hb dX3_lacks_21 rfl (lv_at hl 0 rfl) ?_
    refine va_get (D := g.1) (ci := 3) (v := .ref (ad 2)) (C := RX3) (T := TX3) (N := 30) hx hb hts in_X3 hown hK hP 0 rfl rfl 2 (by decide) (hts _ q1299) (fun _ h9 => h9) rfl dX3_lacks_22 ?_
    refine lv_iload_n hx hb dX3_lacks_25 rfl (lv_at hl 1 rfl) ?_
    refine zald hx hb hK hP 2 0 rfl rfl (j := r) (by omega) (by decide) dX3_lacks_26 ?_
    refine zti (congrFun hc2 _) ?_
    refine zti (show (nF mn) r = nI (mn r) from rfl) ?_
    refine zc_le (tgt := 38) hx hb (by omega) (by omega) dX3_lacks_27 (by decide) (fun c_27 => ?_) (fun c_27 => ?_)
    · refine lv_iconst (v := nI 0) hx hb dX3_lacks_38 (by decide) ?_
      exact W.iret (v := nI 0) hx hb hr (fun t ht hW => ⟨⟨nI 0, (va_up fi 0 (nI 0), cn, xl), rfl, ⟨by unfold zlk; rw [zif_t c_11, zif_t c_27]; first | rfl | (rw [zres_s (by decide)]; rfl) | (rw [zres_0]), by unfold zlk; rw [zif_t c_11, zif_t c_27]⟩, by rw [ht]; exact hP, hD⟩, hS.F ht⟩) hS.2.2 dX3_lacks_39
    · refine lv_aload_n hx hb dX3_lacks_30 rfl (lv_at hl 0 rfl) ?_
      refine lv_iconst (v := nI 2) hx hb dX3_lacks_31 (by decide) ?_
      have hle_32 := hS.1
      refine va_calli (va_runV (As := [.int (nI 2)]) (rest := []) ⟨hx, hb, hml, hown, hts⟩ (m_X3_finding l g ad (va_up fi 0 (nI 0)) cn xl _ 2) (cwV 1 hts (lw_V q1402 q1404 qs31 q69 q1405) rfl rfl rfl hdV_X3_finding ⟨Nat.le_of_ble_eq_true rfl, Nat.le_of_ble_eq_true rfl⟩) (zpreV hK hN (va_recv hK hP (ci := 3) (q0 := 0) rfl rfl) ⟨rfl, hP, hD.weaken (fun _ _ _ _ => trivial)⟩) rfl rfl hl.1 rfl (lv_room (Nat.le_of_ble_eq_true rfl)) dX3_lacks_32 ⟨Nat.le_of_ble_eq_true rfl, Nat.le_of_ble_eq_true rfl⟩) hS (fun q _ h => mA_le hS.1 q h) (mA_le hS.1) (fun r_32 u t H locs ht hvm hw_32 hB hzz hkk hS => ?_)
      obtain ⟨hP, hD⟩ := hB
      rw [ht] at hP
      have hD := hD.weaken (fun _ _ _ h => mA_le hle_32 _ h)
      obtain ⟨rfl, rfl⟩ := hw_32
      have hP : va_P g.1 zCL (mW g ad (va_up fi 0 (nI 2)) cn xl) _ := hP
      have hD : va_D (mA ad s.heap.size) (mW g ad (va_up fi 0 (nI 2)) cn xl) := hD
      refine lv_goto (tgt := 39) hx hb dX3_lacks_35 (by decide) ?_
      exact W.iret (v := -1000010 - nI 2) hx hb hr (fun t ht hW => ⟨⟨-1000010 - nI 2, (va_up fi 0 (nI 2), cn, xl), rfl, ⟨by unfold zlk; rw [zif_t c_11, zif_f c_27]; first | rfl | (rw [zres_s (by decide)]; rfl) | (rw [zres_0]), by unfold zlk; rw [zif_t c_11, zif_f c_27]⟩, by rw [ht]; exact hP, hD⟩, hS.F ht⟩) hS.2.2 dX3_lacks_39
  · refine lv_aload_n hx hb dX3_lacks_14 rfl (lv_at hl 0 rfl) ?_
    refine lv_iconst (v := nI 1) hx hb dX3_lacks_15 (by decide) ?_
    have hle_16 := hS.1
    refine va_calli (va_runV (As := [.int (nI 1)]) (rest := []) ⟨hx, hb, hml, hown, hts⟩ (m_X3_finding l g ad (va_up fi 0 (nI 0)) cn xl _ 1) (cwV 1 hts (lw_V q1402 q1404 qs31 q69 q1405) rfl rfl rfl hdV_X3_finding ⟨Nat.le_of_ble_eq_true rfl, Nat.le_of_ble_eq_true rfl⟩) (zpreV hK hN (va_recv hK hP (ci := 3) (q0 := 0) rfl rfl) ⟨rfl, hP, hD.weaken (fun _ _ _ _ => trivial)⟩) rfl rfl hl.1 rfl (lv_room (Nat.le_of_ble_eq_true rfl)) dX3_lacks_16 ⟨Nat.le_of_ble_eq_true rfl, Nat.le_of_ble_eq_true rfl⟩) hS (fun q _ h => mA_le hS.1 q h) (mA_le hS.1) (fun r_16 u t H locs ht hvm hw_16 hB hzz hkk hS => ?_)
    obtain ⟨hP, hD⟩ := hB
    rw [ht] at hP
    have hD := hD.weaken (fun _ _ _ h => mA_le hle_16 _ h)
    obtain ⟨rfl, rfl⟩ := hw_16
    have hP : va_P g.1 zCL (mW g ad (va_up fi 0 (nI 1)) cn xl) _ := hP
    have hD : va_D (mA ad s.heap.size) (mW g ad (va_up fi 0 (nI 1)) cn xl) := hD
    exact W.iret (v := -1000010 - nI 1) hx hb hr (fun t ht hW => ⟨⟨-1000010 - nI 1, (va_up fi 0 (nI 1), cn, xl), rfl, ⟨by unfold zlk; rw [zif_f c_11]; first | rfl | (rw [zres_s (by decide)]; rfl) | (rw [zres_0]), by unfold zlk; rw [zif_f c_11]⟩, by rw [ht]; exact hP, hD⟩, hS.F ht⟩) hS.2.2 dX3_lacks_19

set_option maxHeartbeats 4000000 in
set_option maxRecDepth 100000 in
theorem m_X3_lacksLetters (l : Launch) (g : zG) (ad : Nat → Nat) (fi : Nat → Int32) (cn : Nat → Nat → Int32) (xl : Nat → Nat → Int64) (sz : Nat) (la : Nat → Int32) (mn : Nat → Nat) (hc1 : cn 1 = la) (hc2 : cn 2 = nF mn) (r n : Nat) (hr8 : r < 8) (hmn : mn r ≤ 40) (hn40 : n ≤ 40) (it : Nat → Int32) (B : Nat → Nat) (hc3 : cn 3 = it) (hc4 : cn 4 = nF B) (hB : bOK B) : Met l yX3_lacksLetters (ws_ yX3_lacksLetters cX3_lacksLetters 6 (some .int)) ({ frames := 2, cells := 0, slots := 0, locals := 46 }) (zPc g [.ref (ad 0), .int (nI r), .int (nI n)] (mH g ad fi cn xl sz)) (va_Qi (fun r2 u => r2 = zres (zll la mn it (B 0) r n) ∧ u = (va_up fi 0 (nI (zll la mn it (B 0) r n)), cn, xl)) (mB g ad sz) (mA ad sz)) 0 0 (mA ad sz) := by
  refine Met.ofW (cc := cX3_lacksLetters) (maxL := 6) (ret := (some .int)) (by decide) rfl ?_
  intro p e s m args below meth c s₁ B0 hml hv
  obtain ⟨rfl, ⟨hK, hN⟩, hsz, hP, hD⟩ := hv
  have hx := B0.exec
  have hb := B0.bytes
  have hr := B0.returns
  have hts := atoms_spec (ws := ws_ yX3_lacksLetters cX3_lacksLetters 6 (some .int)) B0.pre
  have hts : ∀ w ∈ lw_all, w.before _ s = true := fun w h => hts w (List.mem_cons_of_mem _ h)
  have hown : s.vm.findClass RX3 = some m.cls := findClass_of_methodNamed B0.named
  have hlocks := B0.notSynchronized
  subst hsz
  have hD := mD_self s.heap.size hD
  have hS : va_S (mA ad s.heap.size) s.heap s.heap [] := va_S.rf
  have hl := lv_entry ([.ref (ad 0), .int (nI r), .int (nI n)]) (n := 6) (Nat.le_of_ble_eq_true rfl)
  rw [lg_entry_eq]
  generalize (lg_sl ([.ref (ad 0), .int (nI r), .int (nI n)]) ++ List.replicate (6 - (lg_sl ([.ref (ad 0), .int (nI r), .int (nI n)])).length) Slot.unset).toArray = ls at hl ⊢
  have hl : lv_has ls 6 [(0, .ref (ad 0)), (1, .int (nI r)), (2, .int (nI n))] := hl
  have h0 : B 0 ≤ 4 := hB.n4
  have h3 : B 3 ≤ 8 := hB.r8
  refine lv_aload_n hx hb dX3_lacksLetters_0 rfl (lv_at hl 0 rfl) ?_
  refine lv_iload_n hx hb dX3_lacksLetters_1 rfl (lv_at hl 1 rfl) ?_
  refine lv_iload_n hx hb dX3_lacksLetters_2 rfl (lv_at hl 2 rfl) ?_
  have hle_3 := hS.1
  refine va_calli (va_runV (As := [.int (nI r), .int (nI n)]) (rest := []) ⟨hx, hb, hml, hown, hts⟩ (m_X3_lacks l g ad fi cn xl _ la mn hc1 hc2 r n (by omega) (by omega) (by omega)) (cwV 2 hts (lw_V q1489 q1491 qs41 q69 q1492) rfl rfl rfl hdV_X3_lacks ⟨Nat.le_of_ble_eq_true rfl, Nat.le_of_ble_eq_true rfl⟩) (zpreV hK hN (va_recv hK hP (ci := 3) (q0 := 0) rfl rfl) ⟨rfl, hP, hD.weaken (fun _ _ _ _ => trivial)⟩) rfl rfl hl.1 rfl (lv_room (Nat.le_of_ble_eq_true rfl)) dX3_lacksLetters_3 ⟨Nat.le_of_ble_eq_true rfl, Nat.le_of_ble_eq_true rfl⟩) hS (fun q _ h => mA_le hS.1 q h) (mA_le hS.1) (fun r_3 u t H locs ht hvm hw_3 hB hzz hkk hS => ?_)
  obtain ⟨hP, hD⟩ := hB
  rw [ht] at hP
  have hD := hD.weaken (fun _ _ _ h => mA_le hle_3 _ h)
  obtain ⟨rfl, rfl⟩ := hw_3
  have hP : va_P g.1 zCL (mW g ad (va_up fi 0 (nI (zlk la mn r n))) cn xl) _ := hP
  have hD : va_D (mA ad s.heap.size) (mW g ad (va_up fi 0 (nI (zlk la mn r n))) cn xl) := hD
  by_cases hk0 : zlk la mn r n = 0
  · refine zti (show _ = nI 0 from by rw [hk0, zres_0]) ?_
    refine lv_istore_n (lv' := [(3, .int (nI 0)), (0, .ref (ad 0)), (1, .int (nI r)), (2, .int (nI n))]) hx hb dX3_lacksLetters_6 rfl hl (by decide) rfl (fun ls hl => ?_)
    refine lv_iconst (v := nI 1) hx hb dX3_lacksLetters_7 (by decide) ?_
    refine lv_istore (lv' := [(4, .int (nI 1)), (3, .int (nI 0)), (0, .ref (ad 0)), (1, .int (nI r)), (2, .int (nI n))]) hx hb dX3_lacksLetters_8 hl (by decide) rfl (fun ls hl => ?_)
    refine lv_iconst (v := nI 0) hx hb dX3_lacksLetters_10 (by decide) ?_
    refine lv_istore (lv' := [(5, .int (nI 0)), (4, .int (nI 1)), (3, .int (nI 0)), (0, .ref (ad 0)), (1, .int (nI r)), (2, .int (nI n))]) hx hb dX3_lacksLetters_11 hl (by decide) rfl (fun ls hl => ?_)
    refine zloop (head := 13) (nL := 6) (n) (fun k => [(0, .ref (ad 0)), (1, .int (nI r)), (2, .int (nI n)), (3, .int (nI 0)), (4, .int (zB (zlts it (B 0) r k))), (5, .int (nI k))]) (fun k hv_k ih_13 ls hl => ?_) 0 (Nat.zero_le _) ((show nI 1 = zB (zlts it (B 0) r 0) from (zB_t (fun j hj => absurd hj (Nat.not_lt_zero _))).symm) ▸ (lv_sub hl [3, 4, 5, 2, 1, 0] rfl))
    refine lv_iload hx hb dX3_lacksLetters_13 (lv_at hl 5 rfl) ?_
    refine lv_iload_n hx hb dX3_lacksLetters_15 rfl (lv_at hl 2 rfl) ?_
    refine zc_ge (tgt := 60) hx hb (by omega) (by omega) dX3_lacksLetters_16 (by decide) (fun c_16 => ?_) (fun c_16 => ?_)
    · obtain rfl : n = k := by omega
      refine lv_iload hx hb dX3_lacksLetters_60 (lv_at hl 4 rfl) ?_
      refine zi_eqB (tgt := 69) hx hb dX3_lacksLetters_62 (by decide) (fun c_62 => ?_) (fun c_62 => ?_)
      · refine lv_aload_n hx hb dX3_lacksLetters_69 rfl (lv_at hl 0 rfl) ?_
        refine lv_iconst (v := nI 2) hx hb dX3_lacksLetters_70 (by decide) ?_
        have hle_71 := hS.1
        refine va_calli (va_runV (As := [.int (nI 2)]) (rest := []) ⟨hx, hb, hml, hown, hts⟩ (m_X3_finding l g ad (va_up fi 0 (nI (zlk la mn r n))) cn xl _ 2) (cwV 1 hts (lw_V q1402 q1404 qs31 q69 q1405) rfl rfl rfl hdV_X3_finding ⟨Nat.le_of_ble_eq_true rfl, Nat.le_of_ble_eq_true rfl⟩) (zpreV hK hN (va_recv hK hP (ci := 3) (q0 := 0) rfl rfl) ⟨rfl, hP, hD.weaken (fun _ _ _ _ => trivial)⟩) rfl rfl hl.1 rfl (lv_room (Nat.le_of_ble_eq_true rfl)) dX3_lacksLetters_71 ⟨Nat.le_of_ble_eq_true rfl, Nat.le_of_ble_eq_true rfl⟩) hS (fun q _ h => mA_le hS.1 q h) (mA_le hS.1) (fun r_71 u t H locs ht hvm hw_71 hB hzz hkk hS => ?_)
        obtain ⟨hP, hD⟩ := hB
        rw [ht] at hP
        have hD := hD.weaken (fun _ _ _ h => mA_le hle_71 _ h)
        obtain ⟨rfl, rfl⟩ := hw_71
        have hP : va_P g.1 zCL (mW g ad (va_up fi 0 (nI 2)) cn xl) _ := hP
        have hD : va_D (mA ad s.heap.size) (mW g ad (va_up fi 0 (nI 2)) cn xl) := hD
        exact W.iret (v := -1000010 - nI 2) hx hb hr (fun t ht hW => ⟨⟨-1000010 - nI 2, (va_up fi 0 (nI 2), cn, xl), rfl, ⟨by unfold zll; rw [zif_t hk0, zif_f c_62]; first | (rw [zres_0]; done) | (rw [zres_s (by decide)]; rfl), by unfold zll; rw [zif_t hk0, zif_f c_62]⟩, by rw [ht]; exact hP, hD⟩, hS.F ht⟩) hS.2.2 dX3_lacksLetters_74
      · refine lv_iload_n hx hb dX3_lacksLetters_65 rfl (lv_at hl 3 rfl) ?_
        refine lv_goto (tgt := 74) hx hb dX3_lacksLetters_66 (by decide) ?_
        exact W.iret (v := nI 0) hx hb hr (fun t ht hW => ⟨⟨nI 0, (va_up fi 0 (nI (zlk la mn r n)), cn, xl), rfl, ⟨by unfold zll; rw [zif_t hk0, zif_t c_62]; first | (rw [zres_0]; done) | (rw [zres_s (by decide)]; rfl), by unfold zll; rw [zif_t hk0, zif_t c_62, hk0]⟩, by rw [ht]; exact hP, hD⟩, hS.F ht⟩) hS.2.2 dX3_lacksLetters_74
    · refine lv_iload_n hx hb dX3_lacksLetters_19 rfl (lv_at hl 3 rfl) ?_
      refine zi_ne (tgt := 60) hx hb (by omega) dX3_lacksLetters_20 (by decide) (fun c_20 => ?_) (fun c_20 => ?_)
      · exact absurd rfl c_20
      · refine zjoin (ls := ls) (α := Int32) (fun v9 => v9 = zB (zlts it (B 0) r (k + 1))) (fun v9 => .int v9 :: []) 52 (fun v9 hv => ?_) (fun jn_23 => ?_)
        · subst hv
          refine lv_istore (lv' := [(4, .int (zB (zlts it (B 0) r (k + 1)))), (0, .ref (ad 0)), (1, .int (nI r)), (2, .int (nI n)), (3, .int (nI 0)), (5, .int (nI k))]) hx hb dX3_lacksLetters_52 hl (by decide) rfl (fun ls hl => ?_)
          refine lv_iinc (v := nI (k + 1)) (lv' := [(5, .int (nI (k + 1))), (4, .int (zB (zlts it (B 0) r (k + 1)))), (0, .ref (ad 0)), (1, .int (nI r)), (2, .int (nI n)), (3, .int (nI 0))]) hx hb dX3_lacksLetters_54 hl (k := 5) rfl (nI_add k 1) (by decide) rfl (fun ls hl => ?_)
          refine lv_goto (tgt := 13) hx hb dX3_lacksLetters_57 (by decide) ?_
          exact ih_13 (by omega) _ (lv_sub hl [2, 3, 4, 5, 1, 0] rfl)
        · refine lv_iload hx hb dX3_lacksLetters_23 (lv_at hl 4 rfl) ?_
          refine zi_eqB (tgt := 51) hx hb dX3_lacksLetters_25 (by decide) (fun c_25 => ?_) (fun c_25 => ?_)
          · refine lv_iconst (v := nI 0) hx hb dX3_lacksLetters_51 (by decide) ?_
            exact jn_23 _ ((zB_f (fun z => c_25 (fun j hj => z j (by omega)))).symm)
          · refine lv_aload_n hx hb dX3_lacksLetters_28 rfl (lv_at hl 0 rfl) ?_
            refine lv_aload_n hx hb dX3_lacksLetters_29 rfl (lv_at hl 0 rfl) ?_
            refine va_get (D := g.1) (ci := 3) (v := .ref (ad 3)) (C := RX3) (T := TX3) (N := 30) hx hb hts in_X3 hown hK hP 0 rfl rfl 3 (by decide) (hts _ q1300) (fun _ h9 => h9) rfl dX3_lacksLetters_30 ?_
            refine lv_bipush (v := nI 40) hx hb dX3_lacksLetters_33 (by decide) ?_
            refine lv_iload_n hx hb dX3_lacksLetters_35 rfl (lv_at hl 1 rfl) ?_
            refine lv_imul hx hb dX3_lacksLetters_36 ?_
            refine zti (pk_mul 40 r) ?_
            refine lv_iload hx hb dX3_lacksLetters_37 (lv_at hl 5 rfl) ?_
            refine lv_iadd hx hb dX3_lacksLetters_39 ?_
            refine zti (nI_add (40 * r) k) ?_
            refine zald hx hb hK hP 3 0 rfl rfl (j := 40 * r + k) (by omega) (by decide) dX3_lacksLetters_40 ?_
            refine zti (congrFun hc3 _) ?_
            have hQ_41 : va_P g.1 zCL [(ad 0, .inr (3, mO ad (va_up fi 0 (nI (zlk la mn r n))))), (ad 4, .inl (g.2 0, 44, .inl (cn 4)))] _ := hP.sub [0, 4] rfl
            rw [show _ = _ from hc4] at hQ_41
            refine vp_callSi (W.runV (As := [.int (it (40 * r + k))]) (rest := []) ⟨hx, hb, hml, hown, hts⟩ (m_X3_isSort l g ad (va_up fi 0 (nI (zlk la mn r n))) B hB (it (40 * r + k))) (cwV 1 hts (lw_V q1480 q1482 qs39 q69 q1483) rfl rfl rfl hdV_X3_isSort ⟨Nat.le_of_ble_eq_true rfl, Nat.le_of_ble_eq_true rfl⟩) (zpreV hK hN (va_recv hK hP (ci := 3) (q0 := 0) rfl rfl) hQ_41) rfl rfl hl.1 rfl (lv_room (Nat.le_of_ble_eq_true rfl)) dX3_lacksLetters_41 ⟨Nat.le_of_ble_eq_true rfl, Nat.le_of_ble_eq_true rfl⟩) (fun r_41 hr_41 => ?_)
            subst hr_41
            refine zi_eqB (tgt := 51) hx hb dX3_lacksLetters_44 (by decide) (fun c_44 => ?_) (fun c_44 => ?_)
            · refine lv_iconst (v := nI 0) hx hb dX3_lacksLetters_51 (by decide) ?_
              exact jn_23 _ ((zB_f (fun z => c_44 (z k (by omega)))).symm)
            · refine lv_iconst (v := nI 1) hx hb dX3_lacksLetters_47 (by decide) ?_
              refine lv_goto (tgt := 52) hx hb dX3_lacksLetters_48 (by decide) ?_
              exact jn_23 _ ((zB_t (lt_s c_25 c_44)).symm)
  · have hne := zres_ne hk0 (zlk_le la mn r n)
    refine lv_istore_n (lv' := [(3, .int (zres (zlk la mn r n))), (0, .ref (ad 0)), (1, .int (nI r)), (2, .int (nI n))]) hx hb dX3_lacksLetters_6 rfl hl (by decide) rfl (fun ls hl => ?_)
    refine lv_iconst (v := nI 1) hx hb dX3_lacksLetters_7 (by decide) ?_
    refine lv_istore (lv' := [(4, .int (nI 1)), (3, .int (zres (zlk la mn r n))), (0, .ref (ad 0)), (1, .int (nI r)), (2, .int (nI n))]) hx hb dX3_lacksLetters_8 hl (by decide) rfl (fun ls hl => ?_)
    refine lv_iconst (v := nI 0) hx hb dX3_lacksLetters_10 (by decide) ?_
    refine lv_istore (lv' := [(5, .int (nI 0)), (4, .int (nI 1)), (3, .int (zres (zlk la mn r n))), (0, .ref (ad 0)), (1, .int (nI r)), (2, .int (nI n))]) hx hb dX3_lacksLetters_11 hl (by decide) rfl (fun ls hl => ?_)
    refine lv_iload hx hb dX3_lacksLetters_13 (lv_at hl 0 rfl) ?_
    refine lv_iload_n hx hb dX3_lacksLetters_15 rfl (lv_at hl 5 rfl) ?_
    refine zc_ge (tgt := 60) hx hb (by omega) (by omega) dX3_lacksLetters_16 (by decide) (fun c_16 => ?_) (fun c_16 => ?_)
    · refine lv_iload hx hb dX3_lacksLetters_60 (lv_at hl 1 rfl) ?_
      refine zi_eq (tgt := 69) hx hb (by omega) dX3_lacksLetters_62 (by decide) (fun c_62 => ?_) (fun c_62 => ?_)
      · exact absurd c_62 (by decide)
      · refine lv_iload_n hx hb dX3_lacksLetters_65 rfl (lv_at hl 2 rfl) ?_
        refine lv_goto (tgt := 74) hx hb dX3_lacksLetters_66 (by decide) ?_
        exact W.iret (v := zres (zlk la mn r n)) hx hb hr (fun t ht hW => ⟨⟨zres (zlk la mn r n), (va_up fi 0 (nI (zlk la mn r n)), cn, xl), rfl, ⟨by unfold zll; rw [zif_f hk0], by unfold zll; rw [zif_f hk0]⟩, by rw [ht]; exact hP, hD⟩, hS.F ht⟩) hS.2.2 dX3_lacksLetters_74
    · refine lv_iload_n hx hb dX3_lacksLetters_19 rfl (lv_at hl 2 rfl) ?_
      refine lv_if_ne (tgt := 60) hx hb dX3_lacksLetters_20 (by decide) (fun c_20 => ?_) (fun c_20 => ?_)
      · refine lv_iload hx hb dX3_lacksLetters_60 (lv_at hl 1 rfl) ?_
        refine zi_eq (tgt := 69) hx hb (by omega) dX3_lacksLetters_62 (by decide) (fun c_62 => ?_) (fun c_62 => ?_)
        · exact absurd c_62 (by decide)
        · refine lv_iload_n hx hb dX3_lacksLetters_65 rfl (lv_at hl 2 rfl) ?_
          refine lv_goto (tgt := 74) hx hb dX3_lacksLetters_66 (by decide) ?_
          exact W.iret (v := zres (zlk la mn r n)) hx hb hr (fun t ht hW => ⟨⟨zres (zlk la mn r n), (va_up fi 0 (nI (zlk la mn r n)), cn, xl), rfl, ⟨by unfold zll; rw [zif_f hk0], by unfold zll; rw [zif_f hk0]⟩, by rw [ht]; exact hP, hD⟩, hS.F ht⟩) hS.2.2 dX3_lacksLetters_74
      · exact absurd c_20 hne
