/-! the twin: reading -/
set_option maxHeartbeats 4000000 in
set_option maxRecDepth 100000 in
theorem m_X3_bad (l : Launch) (g : zG) (ad : Nat → Nat) (fi : Nat → Int32) (cn : Nat → Nat → Int32) (xl : Nat → Nat → Int64) (sz : Nat) (T : Nat → Nat) (n : Nat) (a : pS) (hF : PF T n a fi cn) (hO0 : PO T n a) (kb : Nat) (hkb : kb ≤ 4) : Met l yX3_bad (ws_ yX3_bad cX3_bad 2 none) ({ frames := 0, cells := 0, slots := 0, locals := 0 }) (zPc g [.ref (ad 0), .int (nI kb)] (mH g ad fi cn xl sz)) (va_Qv (fun u => True ∧ PQ T n (pbad kb a) fi cn xl u) (mB g ad sz) (mA ad sz)) 0 0 (mA ad sz) := by
  refine Met.ofW (cc := cX3_bad) (maxL := 2) (ret := none) (by decide) rfl ?_
  intro p e s m args below meth c s₁ B0 hml hv
  obtain ⟨rfl, ⟨hK, hN⟩, hsz, hP, hD⟩ := hv
  have hx := B0.exec
  have hb := B0.bytes
  have hr := B0.returns
  have hts := atoms_spec (ws := ws_ yX3_bad cX3_bad 2 none) B0.pre
  have hts : ∀ w ∈ lw_all, w.before _ s = true := fun w h => hts w (List.mem_cons_of_mem _ h)
  have hown : s.vm.findClass RX3 = some m.cls := findClass_of_methodNamed B0.named
  have hlocks := B0.notSynchronized
  subst hsz
  have hD := mD_self s.heap.size hD
  have hS : va_S (mA ad s.heap.size) s.heap s.heap [] := va_S.rf
  have hl := lv_entry ([.ref (ad 0), .int (nI kb)]) (n := 2) (Nat.le_of_ble_eq_true rfl)
  rw [lg_entry_eq]
  generalize (lg_sl ([.ref (ad 0), .int (nI kb)]) ++ List.replicate (2 - (lg_sl ([.ref (ad 0), .int (nI kb)])).length) Slot.unset).toArray = ls at hl ⊢
  have hl : lv_has ls 2 [(0, .ref (ad 0)), (1, .int (nI kb))] := hl
  obtain ⟨hq13, hq14, hq15, hq16, hq17, hq18, hq20, hq5, hq12, hq11⟩ := hF
  have hO := hO0
  obtain ⟨ho1, hn120, hT, ho4, ho16, hoF⟩ := hO0
  have he13 := tkE_le (T := T) ho1
  have hk15 := tkK_le T n a.1
  refine lv_aload_n hx hb dX3_bad_0 rfl (lv_at hl 0 rfl) ?_
  refine va_get (D := g.1) (ci := 3) (v := .int (fi 17)) (C := RX3) (T := TX3) (N := 30) hx hb hts in_X3 hown hK hP 0 rfl rfl 17 (by decide) (hts _ q1314) (fun _ h9 => h9) rfl dX3_bad_1 ?_
  refine zti (hq17) ?_
  refine zi_ne (tgt := 20) hx hb (by omega) dX3_bad_4 (by decide) (fun c_4 => ?_) (fun c_4 => ?_)
  · exact W.vret hx hb hr (fun t ht hW => ⟨⟨(fi, cn, xl), rfl, ⟨trivial, (show PQ T n (pbad kb a) fi cn xl (fi, cn, xl) from by unfold pbad; rw [zif_f c_4]; exact ⟨⟨hq13, hq14, hq15, hq16, hq17, hq18, hq20, hq5, hq12, hq11⟩, hO, rfl, (fun k hk => rfl), (fun k hk => rfl)⟩)⟩, by rw [ht]; exact hP, hD⟩, hS.F ht⟩) hS.2.2 dX3_bad_20
  · refine lv_aload_n hx hb dX3_bad_7 rfl (lv_at hl 0 rfl) ?_
    refine lv_iload_n hx hb dX3_bad_8 rfl (lv_at hl 1 rfl) ?_
    refine va_put (D := g.1) (ci := 3) (v := .int (nI kb)) (ty := .int) (C := RX3) (T := TX3) (N := 30) hx hb hts in_X3 tyX3 tyX3_ok nmX3 hown hK hP hD hS 0 rfl rfl 17 (by decide) (hts _ q1314) (fun _ h9 => h9) rfl (by decide +kernel) rfl rfl (Nat.le_of_ble_eq_true rfl) dX3_bad_9 (fun H locs hP hD hS => ?_)
    have hP : va_P g.1 zCL (mW g ad (va_up fi 17 (nI kb)) cn xl) _ := hP
    have hD : va_D (mA ad s.heap.size) (mW g ad (va_up fi 17 (nI kb)) cn xl) := hD
    refine lv_aload_n hx hb dX3_bad_12 rfl (lv_at hl 0 rfl) ?_
    refine lv_aload_n hx hb dX3_bad_13 rfl (lv_at hl 0 rfl) ?_
    refine va_get (D := g.1) (ci := 3) (v := .int (fi 14)) (C := RX3) (T := TX3) (N := 30) hx hb hts in_X3 hown hK hP 0 rfl rfl 14 (by decide) (hts _ q1311) (fun _ h9 => h9) rfl dX3_bad_14 ?_
    refine zti (hq14) ?_
    refine va_put (D := g.1) (ci := 3) (v := .int (nI a.1)) (ty := .int) (C := RX3) (T := TX3) (N := 30) hx hb hts in_X3 tyX3 tyX3_ok nmX3 hown hK hP hD hS 0 rfl rfl 18 (by decide) (hts _ q1315) (fun _ h9 => h9) rfl (by decide +kernel) rfl rfl (Nat.le_of_ble_eq_true rfl) dX3_bad_17 (fun H locs hP hD hS => ?_)
    have hP : va_P g.1 zCL (mW g ad (va_up (va_up fi 17 (nI kb)) 18 (nI a.1)) cn xl) _ := hP
    have hD : va_D (mA ad s.heap.size) (mW g ad (va_up (va_up fi 17 (nI kb)) 18 (nI a.1)) cn xl) := hD
    exact W.vret hx hb hr (fun t ht hW => ⟨⟨(va_up (va_up fi 17 (nI kb)) 18 (nI a.1), cn, xl), rfl, ⟨trivial, (show PQ T n (pbad kb a) fi cn xl (va_up (va_up fi 17 (nI kb)) 18 (nI a.1), cn, xl) from by unfold pbad; rw [zif_t c_4]; exact ⟨⟨hq13, hq14, hq15, hq16, rfl, (fun _ => rfl), hq20, hq5, hq12, hq11⟩, ⟨ho1, hn120, hT, hkb, ho16, hoF⟩, rfl, (fun k hk => ((va_up_ne _ _ (by omega)).trans ((va_up_ne _ _ (by omega)).trans rfl))), (fun k hk => rfl)⟩)⟩, by rw [ht]; exact hP, hD⟩, hS.F ht⟩) hS.2.2 dX3_bad_20

set_option maxHeartbeats 4000000 in
set_option maxRecDepth 100000 in
theorem m_X3_must (l : Launch) (g : zG) (ad : Nat → Nat) (fi : Nat → Int32) (cn : Nat → Nat → Int32) (xl : Nat → Nat → Int64) (sz : Nat) (T : Nat → Nat) (n : Nat) (a : pS) (hF : PF T n a fi cn) (hO0 : PO T n a) (Pm : Prop) : Met l yX3_must (ws_ yX3_must cX3_must 2 none) ({ frames := 2, cells := 0, slots := 0, locals := 45 }) (zPc g [.ref (ad 0), .int (zB Pm)] (mH g ad fi cn xl sz)) (va_Qv (fun u => True ∧ PQ T n (pmust T n Pm a) fi cn xl u) (mB g ad sz) (mA ad sz)) 0 0 (mA ad sz) := by
  refine Met.ofW (cc := cX3_must) (maxL := 2) (ret := none) (by decide) rfl ?_
  intro p e s m args below meth c s₁ B0 hml hv
  obtain ⟨rfl, ⟨hK, hN⟩, hsz, hP, hD⟩ := hv
  have hx := B0.exec
  have hb := B0.bytes
  have hr := B0.returns
  have hts := atoms_spec (ws := ws_ yX3_must cX3_must 2 none) B0.pre
  have hts : ∀ w ∈ lw_all, w.before _ s = true := fun w h => hts w (List.mem_cons_of_mem _ h)
  have hown : s.vm.findClass RX3 = some m.cls := findClass_of_methodNamed B0.named
  have hlocks := B0.notSynchronized
  subst hsz
  have hD := mD_self s.heap.size hD
  have hS : va_S (mA ad s.heap.size) s.heap s.heap [] := va_S.rf
  have hl := lv_entry ([.ref (ad 0), .int (zB Pm)]) (n := 2) (Nat.le_of_ble_eq_true rfl)
  rw [lg_entry_eq]
  generalize (lg_sl ([.ref (ad 0), .int (zB Pm)]) ++ List.replicate (2 - (lg_sl ([.ref (ad 0), .int (zB Pm)])).length) Slot.unset).toArray = ls at hl ⊢
  have hl : lv_has ls 2 [(0, .ref (ad 0)), (1, .int (zB Pm))] := hl
  obtain ⟨hq13, hq14, hq15, hq16, hq17, hq18, hq20, hq5, hq12, hq11⟩ := hF
  have hO := hO0
  obtain ⟨ho1, hn120, hT, ho4, ho16, hoF⟩ := hO0
  have he13 := tkE_le (T := T) ho1
  have hk15 := tkK_le T n a.1
  refine lv_iload_n hx hb dX3_must_0 rfl (lv_at hl 1 rfl) ?_
  refine zi_neB (tgt := 9) hx hb dX3_must_1 (by decide) (fun c_1 => ?_) (fun c_1 => ?_)
  · refine lv_aload_n hx hb dX3_must_9 rfl (lv_at hl 0 rfl) ?_
    refine va_get (D := g.1) (ci := 3) (v := .int (fi 17)) (C := RX3) (T := TX3) (N := 30) hx hb hts in_X3 hown hK hP 0 rfl rfl 17 (by decide) (hts _ q1314) (fun _ h9 => h9) rfl dX3_must_10 ?_
    refine zti (hq17) ?_
    refine zi_ne (tgt := 20) hx hb (by omega) dX3_must_13 (by decide) (fun c_13 => ?_) (fun c_13 => ?_)
    · exact W.vret hx hb hr (fun t ht hW => ⟨⟨(fi, cn, xl), rfl, ⟨trivial, (show PQ T n (pmust T n Pm a) fi cn xl (fi, cn, xl) from by unfold pmust pgo; rw [zif_t c_1, zif_f c_13]; exact ⟨⟨hq13, hq14, hq15, hq16, hq17, hq18, hq20, hq5, hq12, hq11⟩, hO, rfl, (fun k hk => rfl), (fun k hk => rfl)⟩)⟩, by rw [ht]; exact hP, hD⟩, hS.F ht⟩) hS.2.2 dX3_must_20
    · refine lv_aload_n hx hb dX3_must_16 rfl (lv_at hl 0 rfl) ?_
      have hle_17 := hS.1
      refine va_callv (va_runV (As := []) (rest := []) ⟨hx, hb, hml, hown, hts⟩ (m_X3_nextToken l g ad fi cn xl _ T n (tkE T n a.1) hq11 hq12 hq13 (tkE_le hO.1) hn120 hT) (cwV 0 hts (lw_V q1429 q1431 qs32 q69 q1432) rfl rfl rfl hdV_X3_nextToken ⟨Nat.le_of_ble_eq_true rfl, Nat.le_of_ble_eq_true rfl⟩) (zpreV hK hN (va_recv hK hP (ci := 3) (q0 := 0) rfl rfl) ⟨rfl, hP, hD.weaken (fun _ _ _ _ => trivial)⟩) rfl rfl hl.1 rfl (lv_room (Nat.le_of_ble_eq_true rfl)) dX3_must_17 ⟨Nat.le_of_ble_eq_true rfl, Nat.le_of_ble_eq_true rfl⟩) hS (fun q _ h => mA_le hS.1 q h) (mA_le hS.1) (fun u t H locs ht hvm hw_17 hB hzz hkk hS => ?_)
      obtain ⟨hP, hD⟩ := hB
      rw [ht] at hP
      have hD := hD.weaken (fun _ _ _ h => mA_le hle_17 _ h)
      obtain ⟨_, rfl⟩ := hw_17
      have hP : va_P g.1 zCL (mW g ad (va_up (va_up (va_up (va_up fi 13 (nI (tkE T n (tkE T n a.1)))) 14 (nI (tkE T n a.1))) 15 (nI (tkK T n (tkE T n a.1)))) 16 (tkV T n (tkE T n a.1))) cn xl) _ := hP
      have hD : va_D (mA ad s.heap.size) (mW g ad (va_up (va_up (va_up (va_up fi 13 (nI (tkE T n (tkE T n a.1)))) 14 (nI (tkE T n a.1))) 15 (nI (tkK T n (tkE T n a.1)))) 16 (tkV T n (tkE T n a.1))) cn xl) := hD
      exact W.vret hx hb hr (fun t ht hW => ⟨⟨(va_up (va_up (va_up (va_up fi 13 (nI (tkE T n (tkE T n a.1)))) 14 (nI (tkE T n a.1))) 15 (nI (tkK T n (tkE T n a.1)))) 16 (tkV T n (tkE T n a.1)), cn, xl), rfl, ⟨trivial, (show PQ T n (pmust T n Pm a) fi cn xl (va_up (va_up (va_up (va_up fi 13 (nI (tkE T n (tkE T n a.1)))) 14 (nI (tkE T n a.1))) 15 (nI (tkK T n (tkE T n a.1)))) 16 (tkV T n (tkE T n a.1)), cn, xl) from by unfold pmust pgo; rw [zif_t c_1, zif_t c_13]; exact ⟨⟨rfl, rfl, rfl, rfl, hq17, hq18, hq20, hq5, hq12, hq11⟩, hO.nxt, rfl, (fun k hk => ((va_up_ne _ _ (by omega)).trans ((va_up_ne _ _ (by omega)).trans ((va_up_ne _ _ (by omega)).trans ((va_up_ne _ _ (by omega)).trans rfl))))), (fun k hk => rfl)⟩)⟩, by rw [ht]; exact hP, hD⟩, hS.F ht⟩) hS.2.2 dX3_must_20
  · refine lv_aload_n hx hb dX3_must_4 rfl (lv_at hl 0 rfl) ?_
    refine lv_iconst (v := nI 1) hx hb dX3_must_5 (by decide) ?_
    have hle_6 := hS.1
    refine va_callv (va_runV (As := [.int (nI 1)]) (rest := []) ⟨hx, hb, hml, hown, hts⟩ (m_X3_bad l g ad fi cn xl _ T n a (show PF T n a fi cn from ⟨hq13, hq14, hq15, hq16, hq17, hq18, hq20, hq5, hq12, hq11⟩) hO 1 (by decide)) (cwV 1 hts (lw_V q1442 q1444 qs34 q69 q1445) rfl rfl rfl hdV_X3_bad ⟨Nat.le_of_ble_eq_true rfl, Nat.le_of_ble_eq_true rfl⟩) (zpreV hK hN (va_recv hK hP (ci := 3) (q0 := 0) rfl rfl) ⟨rfl, hP, hD.weaken (fun _ _ _ _ => trivial)⟩) rfl rfl hl.1 rfl (lv_room (Nat.le_of_ble_eq_true rfl)) dX3_must_6 ⟨Nat.le_of_ble_eq_true rfl, Nat.le_of_ble_eq_true rfl⟩) hS (fun q _ h => mA_le hS.1 q h) (mA_le hS.1) (fun u t H locs ht hvm hw_6 hB hzz hkk hS => ?_)
    obtain ⟨hP, hD⟩ := hB
    rw [ht] at hP
    have hD := hD.weaken (fun _ _ _ h => mA_le hle_6 _ h)
    obtain ⟨fi_9, cn_9, xl_9⟩ := u
    obtain ⟨_, hPF_9, hO_9, hxl_9, hfr_9, hcr_9⟩ := hw_6
    have hxl_9 : xl = xl_9 := hxl_9.symm
    subst hxl_9
    have hPF_9 : PF T n (pbad 1 a) fi_9 cn_9 := hPF_9
    have hO_9 : PO T n (pbad 1 a) := hO_9
    have ho__9 := hO_9
    obtain ⟨ho1_9, _, _, ho4_9, ho16_9, hoF_9⟩ := ho__9
    have he13_9 := tkE_le (T := T) ho1_9
    have hk15_9 := tkK_le T n (pbad 1 a).1
    obtain ⟨hq13_9, hq14_9, hq15_9, hq16_9, hq17_9, hq18_9, hq20_9, hq5_9, hq12_9, hq11_9⟩ := hPF_9
    have hfr_9 : ∀ k, (k < 13 ∨ 20 < k ∨ k = 19) → fi_9 k = fi k := fun k hk => (hfr_9 k hk).trans rfl
    have hcr_9 : ∀ k, k ≠ 5 → cn_9 k = cn k := fun k hk => (hcr_9 k hk).trans rfl
    have hP : va_P g.1 zCL (mW g ad fi_9 cn_9 xl) _ := hP
    have hD : va_D (mA ad s.heap.size) (mW g ad fi_9 cn_9 xl) := hD
    refine lv_aload_n hx hb dX3_must_9 rfl (lv_at hl 0 rfl) ?_
    refine va_get (D := g.1) (ci := 3) (v := .int (fi_9 17)) (C := RX3) (T := TX3) (N := 30) hx hb hts in_X3 hown hK hP 0 rfl rfl 17 (by decide) (hts _ q1314) (fun _ h9 => h9) rfl dX3_must_10 ?_
    refine zti (hq17_9) ?_
    refine zi_ne (tgt := 20) hx hb (by omega) dX3_must_13 (by decide) (fun c_13 => ?_) (fun c_13 => ?_)
    · exact W.vret hx hb hr (fun t ht hW => ⟨⟨(fi_9, cn_9, xl), rfl, ⟨trivial, (show PQ T n (pmust T n Pm a) fi cn xl (fi_9, cn_9, xl) from by unfold pmust pgo; rw [zif_f c_1, zif_f c_13]; exact ⟨⟨hq13_9, hq14_9, hq15_9, hq16_9, hq17_9, hq18_9, hq20_9, hq5_9, hq12_9, hq11_9⟩, hO_9, rfl, (fun k hk => (hfr_9 k hk)), (fun k hk => (hcr_9 k hk))⟩)⟩, by rw [ht]; exact hP, hD⟩, hS.F ht⟩) hS.2.2 dX3_must_20
    · refine lv_aload_n hx hb dX3_must_16 rfl (lv_at hl 0 rfl) ?_
      have hle_17 := hS.1
      refine va_callv (va_runV (As := []) (rest := []) ⟨hx, hb, hml, hown, hts⟩ (m_X3_nextToken l g ad fi_9 cn_9 xl _ T n (tkE T n (pbad 1 a).1) hq11_9 hq12_9 hq13_9 (tkE_le hO_9.1) hn120 hT) (cwV 0 hts (lw_V q1429 q1431 qs32 q69 q1432) rfl rfl rfl hdV_X3_nextToken ⟨Nat.le_of_ble_eq_true rfl, Nat.le_of_ble_eq_true rfl⟩) (zpreV hK hN (va_recv hK hP (ci := 3) (q0 := 0) rfl rfl) ⟨rfl, hP, hD.weaken (fun _ _ _ _ => trivial)⟩) rfl rfl hl.1 rfl (lv_room (Nat.le_of_ble_eq_true rfl)) dX3_must_17 ⟨Nat.le_of_ble_eq_true rfl, Nat.le_of_ble_eq_true rfl⟩) hS (fun q _ h => mA_le hS.1 q h) (mA_le hS.1) (fun u t H locs ht hvm hw_17 hB hzz hkk hS => ?_)
      obtain ⟨hP, hD⟩ := hB
      rw [ht] at hP
      have hD := hD.weaken (fun _ _ _ h => mA_le hle_17 _ h)
      obtain ⟨_, rfl⟩ := hw_17
      have hP : va_P g.1 zCL (mW g ad (va_up (va_up (va_up (va_up fi_9 13 (nI (tkE T n (tkE T n (pbad 1 a).1)))) 14 (nI (tkE T n (pbad 1 a).1))) 15 (nI (tkK T n (tkE T n (pbad 1 a).1)))) 16 (tkV T n (tkE T n (pbad 1 a).1))) cn_9 xl) _ := hP
      have hD : va_D (mA ad s.heap.size) (mW g ad (va_up (va_up (va_up (va_up fi_9 13 (nI (tkE T n (tkE T n (pbad 1 a).1)))) 14 (nI (tkE T n (pbad 1 a).1))) 15 (nI (tkK T n (tkE T n (pbad 1 a).1)))) 16 (tkV T n (tkE T n (pbad 1 a).1))) cn_9 xl) := hD
      exact W.vret hx hb hr (fun t ht hW => ⟨⟨(va_up (va_up (va_up (va_up fi_9 13 (nI (tkE T n (tkE T n (pbad 1 a).1)))) 14 (nI (tkE T n (pbad 1 a).1))) 15 (nI (tkK T n (tkE T n (pbad 1 a).1)))) 16 (tkV T n (tkE T n (pbad 1 a).1)), cn_9, xl), rfl, ⟨trivial, (show PQ T n (pmust T n Pm a) fi cn xl (va_up (va_up (va_up (va_up fi_9 13 (nI (tkE T n (tkE T n (pbad 1 a).1)))) 14 (nI (tkE T n (pbad 1 a).1))) 15 (nI (tkK T n (tkE T n (pbad 1 a).1)))) 16 (tkV T n (tkE T n (pbad 1 a).1)), cn_9, xl) from by unfold pmust pgo; rw [zif_f c_1, zif_t c_13]; exact ⟨⟨rfl, rfl, rfl, rfl, hq17_9, hq18_9, hq20_9, hq5_9, hq12_9, hq11_9⟩, hO_9.nxt, rfl, (fun k hk => ((va_up_ne _ _ (by omega)).trans ((va_up_ne _ _ (by omega)).trans ((va_up_ne _ _ (by omega)).trans ((va_up_ne _ _ (by omega)).trans (hfr_9 k hk)))))), (fun k hk => (hcr_9 k hk))⟩)⟩, by rw [ht]; exact hP, hD⟩, hS.F ht⟩) hS.2.2 dX3_must_20

set_option maxHeartbeats 4000000 in
set_option maxRecDepth 100000 in
theorem m_X3_figure (l : Launch) (g : zG) (ad : Nat → Nat) (fi : Nat → Int32) (cn : Nat → Nat → Int32) (xl : Nat → Nat → Int64) (sz : Nat) (T : Nat → Nat) (n : Nat) (a : pS) (hF : PF T n a fi cn) (hO0 : PO T n a) (lo hi : Nat) (hlo : lo ≤ 9) (hhi : hi ≤ 9) : Met l yX3_figure (ws_ yX3_figure cX3_figure 4 (some .int)) ({ frames := 3, cells := 0, slots := 0, locals := 66 }) (zPc g [.ref (ad 0), .int (nI lo), .int (nI hi)] (mH g ad fi cn xl sz)) (va_Qi (fun r9 u => r9 = nI (pfgv T n lo hi a) ∧ PQ T n (pfgs T n lo hi a) fi cn xl u) (mB g ad sz) (mA ad sz)) 0 0 (mA ad sz) := by
  refine Met.ofW (cc := cX3_figure) (maxL := 4) (ret := (some .int)) (by decide) rfl ?_
  intro p e s m args below meth c s₁ B0 hml hv
  obtain ⟨rfl, ⟨hK, hN⟩, hsz, hP, hD⟩ := hv
  have hx := B0.exec
  have hb := B0.bytes
  have hr := B0.returns
  have hts := atoms_spec (ws := ws_ yX3_figure cX3_figure 4 (some .int)) B0.pre
  have hts : ∀ w ∈ lw_all, w.before _ s = true := fun w h => hts w (List.mem_cons_of_mem _ h)
  have hown : s.vm.findClass RX3 = some m.cls := findClass_of_methodNamed B0.named
  have hlocks := B0.notSynchronized
  subst hsz
  have hD := mD_self s.heap.size hD
  have hS : va_S (mA ad s.heap.size) s.heap s.heap [] := va_S.rf
  have hl := lv_entry ([.ref (ad 0), .int (nI lo), .int (nI hi)]) (n := 4) (Nat.le_of_ble_eq_true rfl)
  rw [lg_entry_eq]
  generalize (lg_sl ([.ref (ad 0), .int (nI lo), .int (nI hi)]) ++ List.replicate (4 - (lg_sl ([.ref (ad 0), .int (nI lo), .int (nI hi)])).length) Slot.unset).toArray = ls at hl ⊢
  have hl : lv_has ls 4 [(0, .ref (ad 0)), (1, .int (nI lo)), (2, .int (nI hi))] := hl
  obtain ⟨hq13, hq14, hq15, hq16, hq17, hq18, hq20, hq5, hq12, hq11⟩ := hF
  have hO := hO0
  obtain ⟨ho1, hn120, hT, ho4, ho16, hoF⟩ := hO0
  have he13 := tkE_le (T := T) ho1
  have hk15 := tkK_le T n a.1
  refine lv_aload_n hx hb dX3_figure_0 rfl (lv_at hl 0 rfl) ?_
  refine va_get (D := g.1) (ci := 3) (v := .int (fi 17)) (C := RX3) (T := TX3) (N := 30) hx hb hts in_X3 hown hK hP 0 rfl rfl 17 (by decide) (hts _ q1314) (fun _ h9 => h9) rfl dX3_figure_1 ?_
  refine zti (hq17) ?_
  refine zi_ne (tgt := 20) hx hb (by omega) dX3_figure_4 (by decide) (fun c_4 => ?_) (fun c_4 => ?_)
  · refine lv_aload_n hx hb dX3_figure_20 rfl (lv_at hl 0 rfl) ?_
    refine va_get (D := g.1) (ci := 3) (v := .int (fi 17)) (C := RX3) (T := TX3) (N := 30) hx hb hts in_X3 hown hK hP 0 rfl rfl 17 (by decide) (hts _ q1314) (fun _ h9 => h9) rfl dX3_figure_21 ?_
    refine zti (hq17) ?_
    refine zi_ne (tgt := 47) hx hb (by omega) dX3_figure_24 (by decide) (fun c_24 => ?_) (fun c_24 => ?_)
    · refine lv_aload_n hx hb dX3_figure_47 rfl (lv_at hl 0 rfl) ?_
      refine va_get (D := g.1) (ci := 3) (v := .int (fi 17)) (C := RX3) (T := TX3) (N := 30) hx hb hts in_X3 hown hK hP 0 rfl rfl 17 (by decide) (hts _ q1314) (fun _ h9 => h9) rfl dX3_figure_48 ?_
      refine zti (hq17) ?_
      refine zi_ne (tgt := 61) hx hb (by omega) dX3_figure_51 (by decide) (fun c_51 => ?_) (fun c_51 => ?_)
      · refine lv_iload_n hx hb dX3_figure_61 rfl (lv_at hl 1 rfl) ?_
        refine lv_istore_n (lv' := [(3, .int (nI lo)), (0, .ref (ad 0)), (1, .int (nI lo)), (2, .int (nI hi))]) hx hb dX3_figure_62 rfl hl (by decide) rfl (fun ls hl => ?_)
        have hfg : pfig T n lo hi a = a := by unfold pfig; rw [zif_f c_4]
        have hfv : pfgv T n lo hi a = lo := by unfold pfgv; rw [hfg]; exact zif_f c_4
        refine lv_aload_n hx hb dX3_figure_63 rfl (lv_at hl 1 rfl) ?_
        refine lv_iconst (v := nI 1) hx hb dX3_figure_64 (by decide) ?_
        refine zti (show _ = zB True from (by rw [zB_t trivial]; rfl)) ?_
        have hle_65 := hS.1
        refine va_callv (va_runV (As := [.int (zB True)]) (rest := []) ⟨hx, hb, hml, hown, hts⟩ (m_X3_must l g ad fi cn xl _ T n a (show PF T n a fi cn from ⟨hq13, hq14, hq15, hq16, hq17, hq18, hq20, hq5, hq12, hq11⟩) hO True) (cwV 1 hts (lw_V q1438 q1440 qs33 q69 q1441) rfl rfl rfl hdV_X3_must ⟨Nat.le_of_ble_eq_true rfl, Nat.le_of_ble_eq_true rfl⟩) (zpreV hK hN (va_recv hK hP (ci := 3) (q0 := 0) rfl rfl) ⟨rfl, hP, hD.weaken (fun _ _ _ _ => trivial)⟩) rfl rfl hl.1 rfl (lv_room (Nat.le_of_ble_eq_true rfl)) dX3_figure_65 ⟨Nat.le_of_ble_eq_true rfl, Nat.le_of_ble_eq_true rfl⟩) hS (fun q _ h => mA_le hS.1 q h) (mA_le hS.1) (fun u t H locs ht hvm hw_65 hB hzz hkk hS => ?_)
        obtain ⟨hP, hD⟩ := hB
        rw [ht] at hP
        have hD := hD.weaken (fun _ _ _ h => mA_le hle_65 _ h)
        obtain ⟨fi_68, cn_68, xl_68⟩ := u
        obtain ⟨_, hPF_68, hO_68, hxl_68, hfr_68, hcr_68⟩ := hw_65
        have hxl_68 : xl = xl_68 := hxl_68.symm
        subst hxl_68
        have hPF_68 : PF T n (pmust T n True a) fi_68 cn_68 := hPF_68
        have hO_68 : PO T n (pmust T n True a) := hO_68
        have ho__68 := hO_68
        obtain ⟨ho1_68, _, _, ho4_68, ho16_68, hoF_68⟩ := ho__68
        have he13_68 := tkE_le (T := T) ho1_68
        have hk15_68 := tkK_le T n (pmust T n True a).1
        obtain ⟨hq13_68, hq14_68, hq15_68, hq16_68, hq17_68, hq18_68, hq20_68, hq5_68, hq12_68, hq11_68⟩ := hPF_68
        have hfr_68 : ∀ k, (k < 13 ∨ 20 < k ∨ k = 19) → fi_68 k = fi k := fun k hk => (hfr_68 k hk).trans rfl
        have hcr_68 : ∀ k, k ≠ 5 → cn_68 k = cn k := fun k hk => (hcr_68 k hk).trans rfl
        have hP : va_P g.1 zCL (mW g ad fi_68 cn_68 xl) _ := hP
        have hD : va_D (mA ad s.heap.size) (mW g ad fi_68 cn_68 xl) := hD
        refine lv_iload_n hx hb dX3_figure_68 rfl (lv_at hl 0 rfl) ?_
        exact W.iret (v := nI lo) hx hb hr (fun t ht hW => ⟨⟨nI lo, (fi_68, cn_68, xl), rfl, ⟨congrArg nI hfv.symm, (show PQ T n (pfgs T n lo hi a) fi cn xl (fi_68, cn_68, xl) from by rw [pfgs_m, hfg]; exact ⟨⟨hq13_68, hq14_68, hq15_68, hq16_68, hq17_68, hq18_68, hq20_68, hq5_68, hq12_68, hq11_68⟩, hO_68, rfl, (fun k hk => (hfr_68 k hk)), (fun k hk => (hcr_68 k hk))⟩)⟩, by rw [ht]; exact hP, hD⟩, hS.F ht⟩) hS.2.2 dX3_figure_69
      · exact absurd c_51 c_4
    · exact absurd c_24 c_4
  · refine lv_aload_n hx hb dX3_figure_7 rfl (lv_at hl 0 rfl) ?_
    refine va_get (D := g.1) (ci := 3) (v := .int (fi 15)) (C := RX3) (T := TX3) (N := 30) hx hb hts in_X3 hown hK hP 0 rfl rfl 15 (by decide) (hts _ q1312) (fun _ h9 => h9) rfl dX3_figure_8 ?_
    refine zti (hq15) ?_
    refine lv_iconst (v := nI 3) hx hb dX3_figure_11 (by decide) ?_
    refine zc_eq (tgt := 20) hx hb (by omega) (by omega) dX3_figure_12 (by decide) (fun c_12 => ?_) (fun c_12 => ?_)
    · refine lv_aload_n hx hb dX3_figure_20 rfl (lv_at hl 0 rfl) ?_
      refine va_get (D := g.1) (ci := 3) (v := .int (fi 17)) (C := RX3) (T := TX3) (N := 30) hx hb hts in_X3 hown hK hP 0 rfl rfl 17 (by decide) (hts _ q1314) (fun _ h9 => h9) rfl dX3_figure_21 ?_
      refine zti (hq17) ?_
      refine zi_ne (tgt := 47) hx hb (by omega) dX3_figure_24 (by decide) (fun c_24 => ?_) (fun c_24 => ?_)
      · exact absurd c_4 c_24
      · refine lv_aload_n hx hb dX3_figure_27 rfl (lv_at hl 0 rfl) ?_
        refine va_get (D := g.1) (ci := 3) (v := .int (fi 16)) (C := RX3) (T := TX3) (N := 30) hx hb hts in_X3 hown hK hP 0 rfl rfl 16 (by decide) (hts _ q1313) (fun _ h9 => h9) rfl dX3_figure_28 ?_
        refine zti (hq16) ?_
        refine lv_i2l hx hb dX3_figure_31 rfl ?_
        refine lv_iload_n hx hb dX3_figure_32 rfl (lv_at hl 1 rfl) ?_
        refine lv_i2l (v := lN lo) hx hb dX3_figure_33 (nI_l (by omega)) ?_
        refine lv_iload_n hx hb dX3_figure_34 rfl (lv_at hl 2 rfl) ?_
        refine lv_i2l (v := lN hi) hx hb dX3_figure_35 (nI_l (by omega)) ?_
        refine vp_callSi (W.runS (As := [.long ((tkV T n a.1).toInt64), .long (lN lo), .long (lN hi)]) (rest := []) ⟨hx, hb, hml, hown, hts⟩ (m_X3_in l g ((tkV T n a.1).toInt64) (lN lo) (lN hi)) (va_cwS 3 hts (lw_S q1397 q1398 q69 q1399) rfl rfl rfl hdS_X3_in ⟨Nat.le_of_ble_eq_true rfl, Nat.le_of_ble_eq_true rfl⟩) (zpreS hK hN trivial) rfl rfl hl.1 rfl (lv_room (Nat.le_of_ble_eq_true rfl)) dX3_figure_36 ⟨Nat.le_of_ble_eq_true rfl, Nat.le_of_ble_eq_true rfl⟩) (fun r_36 hr_36 => ?_)
        subst hr_36
        refine zti (show _ = zB (zIn (tkV T n a.1) ((lo : Nat) : Int) ((hi : Nat) : Int)) from zB_c (zIn_l (tkV T n a.1) (by omega) (by omega))) ?_
        refine zi_neB (tgt := 47) hx hb dX3_figure_39 (by decide) (fun c_39 => ?_) (fun c_39 => ?_)
        · refine lv_aload_n hx hb dX3_figure_47 rfl (lv_at hl 0 rfl) ?_
          refine va_get (D := g.1) (ci := 3) (v := .int (fi 17)) (C := RX3) (T := TX3) (N := 30) hx hb hts in_X3 hown hK hP 0 rfl rfl 17 (by decide) (hts _ q1314) (fun _ h9 => h9) rfl dX3_figure_48 ?_
          refine zti (hq17) ?_
          refine zi_ne (tgt := 61) hx hb (by omega) dX3_figure_51 (by decide) (fun c_51 => ?_) (fun c_51 => ?_)
          · exact absurd c_4 c_51
          · refine lv_aload_n hx hb dX3_figure_54 rfl (lv_at hl 0 rfl) ?_
            refine va_get (D := g.1) (ci := 3) (v := .int (fi 16)) (C := RX3) (T := TX3) (N := 30) hx hb hts in_X3 hown hK hP 0 rfl rfl 16 (by decide) (hts _ q1313) (fun _ h9 => h9) rfl dX3_figure_55 ?_
            refine zti (hq16) ?_
            refine zti (show _ = nI (zn (tkV T n a.1)) from (zn_eq (by have := c_39.1; omega))) ?_
            refine lv_goto (tgt := 62) hx hb dX3_figure_58 (by decide) ?_
            refine lv_istore_n (lv' := [(3, .int (nI (zn (tkV T n a.1)))), (0, .ref (ad 0)), (1, .int (nI lo)), (2, .int (nI hi))]) hx hb dX3_figure_62 rfl hl (by decide) rfl (fun ls hl => ?_)
            have hfg : pfig T n lo hi a = a := by unfold pfig; rw [zif_t c_4, zif_t c_12, zif_t c_39]
            have hfv : pfgv T n lo hi a = zn (tkV T n a.1) := by unfold pfgv; rw [hfg]; exact zif_t c_4
            refine lv_aload_n hx hb dX3_figure_63 rfl (lv_at hl 1 rfl) ?_
            refine lv_iconst (v := nI 1) hx hb dX3_figure_64 (by decide) ?_
            refine zti (show _ = zB True from (by rw [zB_t trivial]; rfl)) ?_
            have hle_65 := hS.1
            refine va_callv (va_runV (As := [.int (zB True)]) (rest := []) ⟨hx, hb, hml, hown, hts⟩ (m_X3_must l g ad fi cn xl _ T n a (show PF T n a fi cn from ⟨hq13, hq14, hq15, hq16, hq17, hq18, hq20, hq5, hq12, hq11⟩) hO True) (cwV 1 hts (lw_V q1438 q1440 qs33 q69 q1441) rfl rfl rfl hdV_X3_must ⟨Nat.le_of_ble_eq_true rfl, Nat.le_of_ble_eq_true rfl⟩) (zpreV hK hN (va_recv hK hP (ci := 3) (q0 := 0) rfl rfl) ⟨rfl, hP, hD.weaken (fun _ _ _ _ => trivial)⟩) rfl rfl hl.1 rfl (lv_room (Nat.le_of_ble_eq_true rfl)) dX3_figure_65 ⟨Nat.le_of_ble_eq_true rfl, Nat.le_of_ble_eq_true rfl⟩) hS (fun q _ h => mA_le hS.1 q h) (mA_le hS.1) (fun u t H locs ht hvm hw_65 hB hzz hkk hS => ?_)
            obtain ⟨hP, hD⟩ := hB
            rw [ht] at hP
            have hD := hD.weaken (fun _ _ _ h => mA_le hle_65 _ h)
            obtain ⟨fi_68, cn_68, xl_68⟩ := u
            obtain ⟨_, hPF_68, hO_68, hxl_68, hfr_68, hcr_68⟩ := hw_65
            have hxl_68 : xl = xl_68 := hxl_68.symm
            subst hxl_68
            have hPF_68 : PF T n (pmust T n True a) fi_68 cn_68 := hPF_68
            have hO_68 : PO T n (pmust T n True a) := hO_68
            have ho__68 := hO_68
            obtain ⟨ho1_68, _, _, ho4_68, ho16_68, hoF_68⟩ := ho__68
            have he13_68 := tkE_le (T := T) ho1_68
            have hk15_68 := tkK_le T n (pmust T n True a).1
            obtain ⟨hq13_68, hq14_68, hq15_68, hq16_68, hq17_68, hq18_68, hq20_68, hq5_68, hq12_68, hq11_68⟩ := hPF_68
            have hfr_68 : ∀ k, (k < 13 ∨ 20 < k ∨ k = 19) → fi_68 k = fi k := fun k hk => (hfr_68 k hk).trans rfl
            have hcr_68 : ∀ k, k ≠ 5 → cn_68 k = cn k := fun k hk => (hcr_68 k hk).trans rfl
            have hP : va_P g.1 zCL (mW g ad fi_68 cn_68 xl) _ := hP
            have hD : va_D (mA ad s.heap.size) (mW g ad fi_68 cn_68 xl) := hD
            refine lv_iload_n hx hb dX3_figure_68 rfl (lv_at hl 0 rfl) ?_
            exact W.iret (v := nI (zn (tkV T n a.1))) hx hb hr (fun t ht hW => ⟨⟨nI (zn (tkV T n a.1)), (fi_68, cn_68, xl), rfl, ⟨congrArg nI hfv.symm, (show PQ T n (pfgs T n lo hi a) fi cn xl (fi_68, cn_68, xl) from by rw [pfgs_m, hfg]; exact ⟨⟨hq13_68, hq14_68, hq15_68, hq16_68, hq17_68, hq18_68, hq20_68, hq5_68, hq12_68, hq11_68⟩, hO_68, rfl, (fun k hk => (hfr_68 k hk)), (fun k hk => (hcr_68 k hk))⟩)⟩, by rw [ht]; exact hP, hD⟩, hS.F ht⟩) hS.2.2 dX3_figure_69
        · refine lv_aload_n hx hb dX3_figure_42 rfl (lv_at hl 0 rfl) ?_
          refine lv_iconst (v := nI 2) hx hb dX3_figure_43 (by decide) ?_
          have hle_44 := hS.1
          refine va_callv (va_runV (As := [.int (nI 2)]) (rest := []) ⟨hx, hb, hml, hown, hts⟩ (m_X3_bad l g ad fi cn xl _ T n a (show PF T n a fi cn from ⟨hq13, hq14, hq15, hq16, hq17, hq18, hq20, hq5, hq12, hq11⟩) hO 2 (by decide)) (cwV 1 hts (lw_V q1442 q1444 qs34 q69 q1445) rfl rfl rfl hdV_X3_bad ⟨Nat.le_of_ble_eq_true rfl, Nat.le_of_ble_eq_true rfl⟩) (zpreV hK hN (va_recv hK hP (ci := 3) (q0 := 0) rfl rfl) ⟨rfl, hP, hD.weaken (fun _ _ _ _ => trivial)⟩) rfl rfl hl.1 rfl (lv_room (Nat.le_of_ble_eq_true rfl)) dX3_figure_44 ⟨Nat.le_of_ble_eq_true rfl, Nat.le_of_ble_eq_true rfl⟩) hS (fun q _ h => mA_le hS.1 q h) (mA_le hS.1) (fun u t H locs ht hvm hw_44 hB hzz hkk hS => ?_)
          obtain ⟨hP, hD⟩ := hB
          rw [ht] at hP
          have hD := hD.weaken (fun _ _ _ h => mA_le hle_44 _ h)
          obtain ⟨fi_47, cn_47, xl_47⟩ := u
          obtain ⟨_, hPF_47, hO_47, hxl_47, hfr_47, hcr_47⟩ := hw_44
          have hxl_47 : xl = xl_47 := hxl_47.symm
          subst hxl_47
          have hPF_47 : PF T n (pbad 2 a) fi_47 cn_47 := hPF_47
          have hO_47 : PO T n (pbad 2 a) := hO_47
          have ho__47 := hO_47
          obtain ⟨ho1_47, _, _, ho4_47, ho16_47, hoF_47⟩ := ho__47
          have he13_47 := tkE_le (T := T) ho1_47
          have hk15_47 := tkK_le T n (pbad 2 a).1
          obtain ⟨hq13_47, hq14_47, hq15_47, hq16_47, hq17_47, hq18_47, hq20_47, hq5_47, hq12_47, hq11_47⟩ := hPF_47
          have hfr_47 : ∀ k, (k < 13 ∨ 20 < k ∨ k = 19) → fi_47 k = fi k := fun k hk => (hfr_47 k hk).trans rfl
          have hcr_47 : ∀ k, k ≠ 5 → cn_47 k = cn k := fun k hk => (hcr_47 k hk).trans rfl
          have hP : va_P g.1 zCL (mW g ad fi_47 cn_47 xl) _ := hP
          have hD : va_D (mA ad s.heap.size) (mW g ad fi_47 cn_47 xl) := hD
          refine lv_aload_n hx hb dX3_figure_47 rfl (lv_at hl 0 rfl) ?_
          refine va_get (D := g.1) (ci := 3) (v := .int (fi_47 17)) (C := RX3) (T := TX3) (N := 30) hx hb hts in_X3 hown hK hP 0 rfl rfl 17 (by decide) (hts _ q1314) (fun _ h9 => h9) rfl dX3_figure_48 ?_
          refine zti (hq17_47) ?_
          refine zi_ne (tgt := 61) hx hb (by omega) dX3_figure_51 (by decide) (fun c_51 => ?_) (fun c_51 => ?_)
          · refine lv_iload_n hx hb dX3_figure_61 rfl (lv_at hl 1 rfl) ?_
            refine lv_istore_n (lv' := [(3, .int (nI lo)), (0, .ref (ad 0)), (1, .int (nI lo)), (2, .int (nI hi))]) hx hb dX3_figure_62 rfl hl (by decide) rfl (fun ls hl => ?_)
            have hfg : pfig T n lo hi a = pbad 2 a := by unfold pfig; rw [zif_t c_4, zif_t c_12, zif_f c_39]
            have hfv : pfgv T n lo hi a = lo := by unfold pfgv; rw [hfg]; exact zif_f pbad_nz
            refine lv_aload_n hx hb dX3_figure_63 rfl (lv_at hl 1 rfl) ?_
            refine lv_iconst (v := nI 1) hx hb dX3_figure_64 (by decide) ?_
            refine zti (show _ = zB True from (by rw [zB_t trivial]; rfl)) ?_
            have hle_65 := hS.1
            refine va_callv (va_runV (As := [.int (zB True)]) (rest := []) ⟨hx, hb, hml, hown, hts⟩ (m_X3_must l g ad fi_47 cn_47 xl _ T n (pbad 2 a) (show PF T n (pbad 2 a) fi_47 cn_47 from ⟨hq13_47, hq14_47, hq15_47, hq16_47, hq17_47, hq18_47, hq20_47, hq5_47, hq12_47, hq11_47⟩) hO_47 True) (cwV 1 hts (lw_V q1438 q1440 qs33 q69 q1441) rfl rfl rfl hdV_X3_must ⟨Nat.le_of_ble_eq_true rfl, Nat.le_of_ble_eq_true rfl⟩) (zpreV hK hN (va_recv hK hP (ci := 3) (q0 := 0) rfl rfl) ⟨rfl, hP, hD.weaken (fun _ _ _ _ => trivial)⟩) rfl rfl hl.1 rfl (lv_room (Nat.le_of_ble_eq_true rfl)) dX3_figure_65 ⟨Nat.le_of_ble_eq_true rfl, Nat.le_of_ble_eq_true rfl⟩) hS (fun q _ h => mA_le hS.1 q h) (mA_le hS.1) (fun u t H locs ht hvm hw_65 hB hzz hkk hS => ?_)
            obtain ⟨hP, hD⟩ := hB
            rw [ht] at hP
            have hD := hD.weaken (fun _ _ _ h => mA_le hle_65 _ h)
            obtain ⟨fi_68, cn_68, xl_68⟩ := u
            obtain ⟨_, hPF_68, hO_68, hxl_68, hfr_68, hcr_68⟩ := hw_65
            have hxl_68 : xl = xl_68 := hxl_68.symm
            subst hxl_68
            have hPF_68 : PF T n (pmust T n True (pbad 2 a)) fi_68 cn_68 := hPF_68
            have hO_68 : PO T n (pmust T n True (pbad 2 a)) := hO_68
            have ho__68 := hO_68
            obtain ⟨ho1_68, _, _, ho4_68, ho16_68, hoF_68⟩ := ho__68
            have he13_68 := tkE_le (T := T) ho1_68
            have hk15_68 := tkK_le T n (pmust T n True (pbad 2 a)).1
            obtain ⟨hq13_68, hq14_68, hq15_68, hq16_68, hq17_68, hq18_68, hq20_68, hq5_68, hq12_68, hq11_68⟩ := hPF_68
            have hfr_68 : ∀ k, (k < 13 ∨ 20 < k ∨ k = 19) → fi_68 k = fi k := fun k hk => (hfr_68 k hk).trans (hfr_47 k hk)
            have hcr_68 : ∀ k, k ≠ 5 → cn_68 k = cn k := fun k hk => (hcr_68 k hk).trans (hcr_47 k hk)
            have hP : va_P g.1 zCL (mW g ad fi_68 cn_68 xl) _ := hP
            have hD : va_D (mA ad s.heap.size) (mW g ad fi_68 cn_68 xl) := hD
            refine lv_iload_n hx hb dX3_figure_68 rfl (lv_at hl 0 rfl) ?_
            exact W.iret (v := nI lo) hx hb hr (fun t ht hW => ⟨⟨nI lo, (fi_68, cn_68, xl), rfl, ⟨congrArg nI hfv.symm, (show PQ T n (pfgs T n lo hi a) fi cn xl (fi_68, cn_68, xl) from by rw [pfgs_m, hfg]; exact ⟨⟨hq13_68, hq14_68, hq15_68, hq16_68, hq17_68, hq18_68, hq20_68, hq5_68, hq12_68, hq11_68⟩, hO_68, rfl, (fun k hk => (hfr_68 k hk)), (fun k hk => (hcr_68 k hk))⟩)⟩, by rw [ht]; exact hP, hD⟩, hS.F ht⟩) hS.2.2 dX3_figure_69
          · exact absurd c_51 pbad_nz
    · refine lv_aload_n hx hb dX3_figure_15 rfl (lv_at hl 0 rfl) ?_
      refine lv_iconst (v := nI 1) hx hb dX3_figure_16 (by decide) ?_
      have hle_17 := hS.1
      refine va_callv (va_runV (As := [.int (nI 1)]) (rest := []) ⟨hx, hb, hml, hown, hts⟩ (m_X3_bad l g ad fi cn xl _ T n a (show PF T n a fi cn from ⟨hq13, hq14, hq15, hq16, hq17, hq18, hq20, hq5, hq12, hq11⟩) hO 1 (by decide)) (cwV 1 hts (lw_V q1442 q1444 qs34 q69 q1445) rfl rfl rfl hdV_X3_bad ⟨Nat.le_of_ble_eq_true rfl, Nat.le_of_ble_eq_true rfl⟩) (zpreV hK hN (va_recv hK hP (ci := 3) (q0 := 0) rfl rfl) ⟨rfl, hP, hD.weaken (fun _ _ _ _ => trivial)⟩) rfl rfl hl.1 rfl (lv_room (Nat.le_of_ble_eq_true rfl)) dX3_figure_17 ⟨Nat.le_of_ble_eq_true rfl, Nat.le_of_ble_eq_true rfl⟩) hS (fun q _ h => mA_le hS.1 q h) (mA_le hS.1) (fun u t H locs ht hvm hw_17 hB hzz hkk hS => ?_)
      obtain ⟨hP, hD⟩ := hB
      rw [ht] at hP
      have hD := hD.weaken (fun _ _ _ h => mA_le hle_17 _ h)
      obtain ⟨fi_20, cn_20, xl_20⟩ := u
      obtain ⟨_, hPF_20, hO_20, hxl_20, hfr_20, hcr_20⟩ := hw_17
      have hxl_20 : xl = xl_20 := hxl_20.symm
      subst hxl_20
      have hPF_20 : PF T n (pbad 1 a) fi_20 cn_20 := hPF_20
      have hO_20 : PO T n (pbad 1 a) := hO_20
      have ho__20 := hO_20
      obtain ⟨ho1_20, _, _, ho4_20, ho16_20, hoF_20⟩ := ho__20
      have he13_20 := tkE_le (T := T) ho1_20
      have hk15_20 := tkK_le T n (pbad 1 a).1
      obtain ⟨hq13_20, hq14_20, hq15_20, hq16_20, hq17_20, hq18_20, hq20_20, hq5_20, hq12_20, hq11_20⟩ := hPF_20
      have hfr_20 : ∀ k, (k < 13 ∨ 20 < k ∨ k = 19) → fi_20 k = fi k := fun k hk => (hfr_20 k hk).trans rfl
      have hcr_20 : ∀ k, k ≠ 5 → cn_20 k = cn k := fun k hk => (hcr_20 k hk).trans rfl
      have hP : va_P g.1 zCL (mW g ad fi_20 cn_20 xl) _ := hP
      have hD : va_D (mA ad s.heap.size) (mW g ad fi_20 cn_20 xl) := hD
      refine lv_aload_n hx hb dX3_figure_20 rfl (lv_at hl 0 rfl) ?_
      refine va_get (D := g.1) (ci := 3) (v := .int (fi_20 17)) (C := RX3) (T := TX3) (N := 30) hx hb hts in_X3 hown hK hP 0 rfl rfl 17 (by decide) (hts _ q1314) (fun _ h9 => h9) rfl dX3_figure_21 ?_
      refine zti (hq17_20) ?_
      refine zi_ne (tgt := 47) hx hb (by omega) dX3_figure_24 (by decide) (fun c_24 => ?_) (fun c_24 => ?_)
      · refine lv_aload_n hx hb dX3_figure_47 rfl (lv_at hl 0 rfl) ?_
        refine va_get (D := g.1) (ci := 3) (v := .int (fi_20 17)) (C := RX3) (T := TX3) (N := 30) hx hb hts in_X3 hown hK hP 0 rfl rfl 17 (by decide) (hts _ q1314) (fun _ h9 => h9) rfl dX3_figure_48 ?_
        refine zti (hq17_20) ?_
        refine zi_ne (tgt := 61) hx hb (by omega) dX3_figure_51 (by decide) (fun c_51 => ?_) (fun c_51 => ?_)
        · refine lv_iload_n hx hb dX3_figure_61 rfl (lv_at hl 1 rfl) ?_
          refine lv_istore_n (lv' := [(3, .int (nI lo)), (0, .ref (ad 0)), (1, .int (nI lo)), (2, .int (nI hi))]) hx hb dX3_figure_62 rfl hl (by decide) rfl (fun ls hl => ?_)
          have hfg : pfig T n lo hi a = pbad 1 a := by unfold pfig; rw [zif_t c_4, zif_f c_12]
          have hfv : pfgv T n lo hi a = lo := by unfold pfgv; rw [hfg]; exact zif_f pbad_nz
          refine lv_aload_n hx hb dX3_figure_63 rfl (lv_at hl 1 rfl) ?_
          refine lv_iconst (v := nI 1) hx hb dX3_figure_64 (by decide) ?_
          refine zti (show _ = zB True from (by rw [zB_t trivial]; rfl)) ?_
          have hle_65 := hS.1
          refine va_callv (va_runV (As := [.int (zB True)]) (rest := []) ⟨hx, hb, hml, hown, hts⟩ (m_X3_must l g ad fi_20 cn_20 xl _ T n (pbad 1 a) (show PF T n (pbad 1 a) fi_20 cn_20 from ⟨hq13_20, hq14_20, hq15_20, hq16_20, hq17_20, hq18_20, hq20_20, hq5_20, hq12_20, hq11_20⟩) hO_20 True) (cwV 1 hts (lw_V q1438 q1440 qs33 q69 q1441) rfl rfl rfl hdV_X3_must ⟨Nat.le_of_ble_eq_true rfl, Nat.le_of_ble_eq_true rfl⟩) (zpreV hK hN (va_recv hK hP (ci := 3) (q0 := 0) rfl rfl) ⟨rfl, hP, hD.weaken (fun _ _ _ _ => trivial)⟩) rfl rfl hl.1 rfl (lv_room (Nat.le_of_ble_eq_true rfl)) dX3_figure_65 ⟨Nat.le_of_ble_eq_true rfl, Nat.le_of_ble_eq_true rfl⟩) hS (fun q _ h => mA_le hS.1 q h) (mA_le hS.1) (fun u t H locs ht hvm hw_65 hB hzz hkk hS => ?_)
          obtain ⟨hP, hD⟩ := hB
          rw [ht] at hP
          have hD := hD.weaken (fun _ _ _ h => mA_le hle_65 _ h)
          obtain ⟨fi_68, cn_68, xl_68⟩ := u
          obtain ⟨_, hPF_68, hO_68, hxl_68, hfr_68, hcr_68⟩ := hw_65
          have hxl_68 : xl = xl_68 := hxl_68.symm
          subst hxl_68
          have hPF_68 : PF T n (pmust T n True (pbad 1 a)) fi_68 cn_68 := hPF_68
          have hO_68 : PO T n (pmust T n True (pbad 1 a)) := hO_68
          have ho__68 := hO_68
          obtain ⟨ho1_68, _, _, ho4_68, ho16_68, hoF_68⟩ := ho__68
          have he13_68 := tkE_le (T := T) ho1_68
          have hk15_68 := tkK_le T n (pmust T n True (pbad 1 a)).1
          obtain ⟨hq13_68, hq14_68, hq15_68, hq16_68, hq17_68, hq18_68, hq20_68, hq5_68, hq12_68, hq11_68⟩ := hPF_68
          have hfr_68 : ∀ k, (k < 13 ∨ 20 < k ∨ k = 19) → fi_68 k = fi k := fun k hk => (hfr_68 k hk).trans (hfr_20 k hk)
          have hcr_68 : ∀ k, k ≠ 5 → cn_68 k = cn k := fun k hk => (hcr_68 k hk).trans (hcr_20 k hk)
          have hP : va_P g.1 zCL (mW g ad fi_68 cn_68 xl) _ := hP
          have hD : va_D (mA ad s.heap.size) (mW g ad fi_68 cn_68 xl) := hD
          refine lv_iload_n hx hb dX3_figure_68 rfl (lv_at hl 0 rfl) ?_
          exact W.iret (v := nI lo) hx hb hr (fun t ht hW => ⟨⟨nI lo, (fi_68, cn_68, xl), rfl, ⟨congrArg nI hfv.symm, (show PQ T n (pfgs T n lo hi a) fi cn xl (fi_68, cn_68, xl) from by rw [pfgs_m, hfg]; exact ⟨⟨hq13_68, hq14_68, hq15_68, hq16_68, hq17_68, hq18_68, hq20_68, hq5_68, hq12_68, hq11_68⟩, hO_68, rfl, (fun k hk => (hfr_68 k hk)), (fun k hk => (hcr_68 k hk))⟩)⟩, by rw [ht]; exact hP, hD⟩, hS.F ht⟩) hS.2.2 dX3_figure_69
        · exact absurd c_51 pbad_nz
      · exact absurd c_24 pbad_nz

set_option maxHeartbeats 4000000 in
set_option maxRecDepth 100000 in
theorem m_X3_mustSign (l : Launch) (g : zG) (ad : Nat → Nat) (fi : Nat → Int32) (cn : Nat → Nat → Int32) (xl : Nat → Nat → Int64) (sz : Nat) (T : Nat → Nat) (n : Nat) (a : pS) (hF : PF T n a fi cn) (hO0 : PO T n a) (cs : Nat) (hcs : cs < 256) : Met l yX3_mustSign (ws_ yX3_mustSign cX3_mustSign 2 none) ({ frames := 3, cells := 0, slots := 0, locals := 66 }) (zPc g [.ref (ad 0), .int (nI cs)] (mH g ad fi cn xl sz)) (va_Qv (fun u => True ∧ PQ T n (psgn T n cs a) fi cn xl u) (mB g ad sz) (mA ad sz)) 0 0 (mA ad sz) := by
  refine Met.ofW (cc := cX3_mustSign) (maxL := 2) (ret := none) (by decide) rfl ?_
  intro p e s m args below meth c s₁ B0 hml hv
  obtain ⟨rfl, ⟨hK, hN⟩, hsz, hP, hD⟩ := hv
  have hx := B0.exec
  have hb := B0.bytes
  have hr := B0.returns
  have hts := atoms_spec (ws := ws_ yX3_mustSign cX3_mustSign 2 none) B0.pre
  have hts : ∀ w ∈ lw_all, w.before _ s = true := fun w h => hts w (List.mem_cons_of_mem _ h)
  have hown : s.vm.findClass RX3 = some m.cls := findClass_of_methodNamed B0.named
  have hlocks := B0.notSynchronized
  subst hsz
  have hD := mD_self s.heap.size hD
  have hS : va_S (mA ad s.heap.size) s.heap s.heap [] := va_S.rf
  have hl := lv_entry ([.ref (ad 0), .int (nI cs)]) (n := 2) (Nat.le_of_ble_eq_true rfl)
  rw [lg_entry_eq]
  generalize (lg_sl ([.ref (ad 0), .int (nI cs)]) ++ List.replicate (2 - (lg_sl ([.ref (ad 0), .int (nI cs)])).length) Slot.unset).toArray = ls at hl ⊢
  have hl : lv_has ls 2 [(0, .ref (ad 0)), (1, .int (nI cs))] := hl
  obtain ⟨hq13, hq14, hq15, hq16, hq17, hq18, hq20, hq5, hq12, hq11⟩ := hF
  have hO := hO0
  obtain ⟨ho1, hn120, hT, ho4, ho16, hoF⟩ := hO0
  have he13 := tkE_le (T := T) ho1
  have hk15 := tkK_le T n a.1
  refine lv_aload_n hx hb dX3_mustSign_0 rfl (lv_at hl 0 rfl) ?_
  refine zjoin (ls := ls) (α := Int32) (fun v9 => v9 = zB (tkK T n a.1 = 4 ∧ tkV T n a.1 = nI cs)) (fun v9 => .int v9 :: [.ref (ad 0)]) 22 (fun v9 hv => ?_) (fun jn_1 => ?_)
  · subst hv
    have hle_22 := hS.1
    refine va_callv (va_runV (As := [.int (zB (tkK T n a.1 = 4 ∧ tkV T n a.1 = nI cs))]) (rest := []) ⟨hx, hb, hml, hown, hts⟩ (m_X3_must l g ad fi cn xl _ T n a (show PF T n a fi cn from ⟨hq13, hq14, hq15, hq16, hq17, hq18, hq20, hq5, hq12, hq11⟩) hO (tkK T n a.1 = 4 ∧ tkV T n a.1 = nI cs)) (cwV 1 hts (lw_V q1438 q1440 qs33 q69 q1441) rfl rfl rfl hdV_X3_must ⟨Nat.le_of_ble_eq_true rfl, Nat.le_of_ble_eq_true rfl⟩) (zpreV hK hN (va_recv hK hP (ci := 3) (q0 := 0) rfl rfl) ⟨rfl, hP, hD.weaken (fun _ _ _ _ => trivial)⟩) rfl rfl hl.1 rfl (lv_room (Nat.le_of_ble_eq_true rfl)) dX3_mustSign_22 ⟨Nat.le_of_ble_eq_true rfl, Nat.le_of_ble_eq_true rfl⟩) hS (fun q _ h => mA_le hS.1 q h) (mA_le hS.1) (fun u t H locs ht hvm hw_22 hB hzz hkk hS => ?_)
    obtain ⟨hP, hD⟩ := hB
    rw [ht] at hP
    have hD := hD.weaken (fun _ _ _ h => mA_le hle_22 _ h)
    obtain ⟨fi_25, cn_25, xl_25⟩ := u
    obtain ⟨_, hPF_25, hO_25, hxl_25, hfr_25, hcr_25⟩ := hw_22
    have hxl_25 : xl = xl_25 := hxl_25.symm
    subst hxl_25
    have hPF_25 : PF T n (pmust T n (tkK T n a.1 = 4 ∧ tkV T n a.1 = nI cs) a) fi_25 cn_25 := hPF_25
    have hO_25 : PO T n (pmust T n (tkK T n a.1 = 4 ∧ tkV T n a.1 = nI cs) a) := hO_25
    have ho__25 := hO_25
    obtain ⟨ho1_25, _, _, ho4_25, ho16_25, hoF_25⟩ := ho__25
    have he13_25 := tkE_le (T := T) ho1_25
    have hk15_25 := tkK_le T n (pmust T n (tkK T n a.1 = 4 ∧ tkV T n a.1 = nI cs) a).1
    obtain ⟨hq13_25, hq14_25, hq15_25, hq16_25, hq17_25, hq18_25, hq20_25, hq5_25, hq12_25, hq11_25⟩ := hPF_25
    have hfr_25 : ∀ k, (k < 13 ∨ 20 < k ∨ k = 19) → fi_25 k = fi k := fun k hk => (hfr_25 k hk).trans rfl
    have hcr_25 : ∀ k, k ≠ 5 → cn_25 k = cn k := fun k hk => (hcr_25 k hk).trans rfl
    have hP : va_P g.1 zCL (mW g ad fi_25 cn_25 xl) _ := hP
    have hD : va_D (mA ad s.heap.size) (mW g ad fi_25 cn_25 xl) := hD
    exact W.vret hx hb hr (fun t ht hW => ⟨⟨(fi_25, cn_25, xl), rfl, ⟨trivial, (show PQ T n (psgn T n cs a) fi cn xl (fi_25, cn_25, xl) from by unfold psgn; exact ⟨⟨hq13_25, hq14_25, hq15_25, hq16_25, hq17_25, hq18_25, hq20_25, hq5_25, hq12_25, hq11_25⟩, hO_25, rfl, (fun k hk => (hfr_25 k hk)), (fun k hk => (hcr_25 k hk))⟩)⟩, by rw [ht]; exact hP, hD⟩, hS.F ht⟩) hS.2.2 dX3_mustSign_25
  · refine lv_aload_n hx hb dX3_mustSign_1 rfl (lv_at hl 0 rfl) ?_
    refine va_get (D := g.1) (ci := 3) (v := .int (fi 15)) (C := RX3) (T := TX3) (N := 30) hx hb hts in_X3 hown hK hP 0 rfl rfl 15 (by decide) (hts _ q1312) (fun _ h9 => h9) rfl dX3_mustSign_2 ?_
    refine zti (hq15) ?_
    refine lv_iconst (v := nI 4) hx hb dX3_mustSign_5 (by decide) ?_
    refine zc_ne (tgt := 21) hx hb (by omega) (by omega) dX3_mustSign_6 (by decide) (fun c_6 => ?_) (fun c_6 => ?_)
    · refine lv_iconst (v := nI 0) hx hb dX3_mustSign_21 (by decide) ?_
      exact jn_1 _ ((zB_f (fun z => c_6 z.1)).symm)
    · refine lv_aload_n hx hb dX3_mustSign_9 rfl (lv_at hl 0 rfl) ?_
      refine va_get (D := g.1) (ci := 3) (v := .int (fi 16)) (C := RX3) (T := TX3) (N := 30) hx hb hts in_X3 hown hK hP 0 rfl rfl 16 (by decide) (hts _ q1313) (fun _ h9 => h9) rfl dX3_mustSign_10 ?_
      refine zti (hq16) ?_
      refine lv_iload_n hx hb dX3_mustSign_13 rfl (lv_at hl 1 rfl) ?_
      refine lv_icmp_ne (tgt := 21) hx hb dX3_mustSign_14 (by decide) (fun c_14 => ?_) (fun c_14 => ?_)
      · refine lv_iconst (v := nI 0) hx hb dX3_mustSign_21 (by decide) ?_
        exact jn_1 _ ((zB_f (fun z => c_14 z.2)).symm)
      · refine lv_iconst (v := nI 1) hx hb dX3_mustSign_17 (by decide) ?_
        refine lv_goto (tgt := 22) hx hb dX3_mustSign_18 (by decide) ?_
        exact jn_1 _ ((zB_t ⟨c_6, c_14⟩).symm)

set_option maxHeartbeats 4000000 in
set_option maxRecDepth 100000 in
theorem m_X3_readWord (l : Launch) (g : zG) (ad : Nat → Nat) (fi : Nat → Int32) (cn : Nat → Nat → Int32) (xl : Nat → Nat → Int64) (sz : Nat) (T : Nat → Nat) (n : Nat) (a : pS) (hF : PF T n a fi cn) (hO0 : PO T n a) (wa mo : Nat) (hw0 : 0 < wa) (hwm : wa + mo ≤ 44) : Met l yX3_readWord (ws_ yX3_readWord cX3_readWord 4 (some .int)) ({ frames := 2, cells := 0, slots := 0, locals := 45 }) (zPc g [.ref (ad 0), .int (nI wa), .int (nI mo)] (mH g ad fi cn xl sz)) (va_Qi (fun r9 u => r9 = nI (pwdn T n mo a) ∧ PQ T n (pwds T n wa mo a) fi cn xl u) (mB g ad sz) (mA ad sz)) 0 0 (mA ad sz) := by
  refine Met.ofW (cc := cX3_readWord) (maxL := 4) (ret := (some .int)) (by decide) rfl ?_
  intro p e s m args below meth c s₁ B0 hml hv
  obtain ⟨rfl, ⟨hK, hN⟩, hsz, hP, hD⟩ := hv
  have hx := B0.exec
  have hb := B0.bytes
  have hr := B0.returns
  have hts := atoms_spec (ws := ws_ yX3_readWord cX3_readWord 4 (some .int)) B0.pre
  have hts : ∀ w ∈ lw_all, w.before _ s = true := fun w h => hts w (List.mem_cons_of_mem _ h)
  have hown : s.vm.findClass RX3 = some m.cls := findClass_of_methodNamed B0.named
  have hlocks := B0.notSynchronized
  subst hsz
  have hD := mD_self s.heap.size hD
  have hS : va_S (mA ad s.heap.size) s.heap s.heap [] := va_S.rf
  have hl := lv_entry ([.ref (ad 0), .int (nI wa), .int (nI mo)]) (n := 4) (Nat.le_of_ble_eq_true rfl)
  rw [lg_entry_eq]
  generalize (lg_sl ([.ref (ad 0), .int (nI wa), .int (nI mo)]) ++ List.replicate (4 - (lg_sl ([.ref (ad 0), .int (nI wa), .int (nI mo)])).length) Slot.unset).toArray = ls at hl ⊢
  have hl : lv_has ls 4 [(0, .ref (ad 0)), (1, .int (nI wa)), (2, .int (nI mo))] := hl
  obtain ⟨hq13, hq14, hq15, hq16, hq17, hq18, hq20, hq5, hq12, hq11⟩ := hF
  have hO := hO0
  obtain ⟨ho1, hn120, hT, ho4, ho16, hoF⟩ := hO0
  have he13 := tkE_le (T := T) ho1
  have hk15 := tkK_le T n a.1
  refine lv_iconst (v := nI 0) hx hb dX3_readWord_0 (by decide) ?_
  refine lv_istore_n (lv' := [(3, .int (nI 0)), (0, .ref (ad 0)), (1, .int (nI wa)), (2, .int (nI mo))]) hx hb dX3_readWord_1 rfl hl (by decide) rfl (fun ls hl => ?_)
  refine lv_aload_n hx hb dX3_readWord_2 rfl (lv_at hl 1 rfl) ?_
  refine va_get (D := g.1) (ci := 3) (v := .int (fi 17)) (C := RX3) (T := TX3) (N := 30) hx hb hts in_X3 hown hK hP 0 rfl rfl 17 (by decide) (hts _ q1314) (fun _ h9 => h9) rfl dX3_readWord_3 ?_
  refine zti (hq17) ?_
  refine zi_ne (tgt := 39) hx hb (by omega) dX3_readWord_6 (by decide) (fun c_6 => ?_) (fun c_6 => ?_)
  · refine lv_aload_n hx hb dX3_readWord_39 rfl (lv_at hl 1 rfl) ?_
    refine va_get (D := g.1) (ci := 3) (v := .int (fi 17)) (C := RX3) (T := TX3) (N := 30) hx hb hts in_X3 hown hK hP 0 rfl rfl 17 (by decide) (hts _ q1314) (fun _ h9 => h9) rfl dX3_readWord_40 ?_
    refine zti (hq17) ?_
    refine zi_ne (tgt := 119) hx hb (by omega) dX3_readWord_43 (by decide) (fun c_43 => ?_) (fun c_43 => ?_)
    · refine lv_iload_n hx hb dX3_readWord_119 rfl (lv_at hl 0 rfl) ?_
      exact W.iret (v := nI 0) hx hb hr (fun t ht hW => ⟨⟨nI 0, (fi, cn, xl), rfl, (have e0 : pwd0 T n a = a := zif_f (fun z => c_6 z.1); have hds := pwds_f (wa := wa) (mo := mo) (by rw [e0]; exact c_6 : ¬ (pwd0 T n a).2.1 = 0); ⟨congrArg nI hds.2.symm, (show PQ T n (pwds T n wa mo a) fi cn xl (fi, cn, xl) from by rw [hds.1, e0]; exact ⟨⟨hq13, hq14, hq15, hq16, hq17, hq18, hq20, hq5, hq12, hq11⟩, hO, rfl, (fun k hk => rfl), (fun k hk => rfl)⟩)⟩), by rw [ht]; exact hP, hD⟩, hS.F ht⟩) hS.2.2 dX3_readWord_120
    · exact absurd c_43 c_6
  · refine lv_aload_n hx hb dX3_readWord_9 rfl (lv_at hl 1 rfl) ?_
    refine va_get (D := g.1) (ci := 3) (v := .int (fi 15)) (C := RX3) (T := TX3) (N := 30) hx hb hts in_X3 hown hK hP 0 rfl rfl 15 (by decide) (hts _ q1312) (fun _ h9 => h9) rfl dX3_readWord_10 ?_
    refine zti (hq15) ?_
    refine lv_iconst (v := nI 2) hx hb dX3_readWord_13 (by decide) ?_
    refine zc_ne (tgt := 34) hx hb (by omega) (by omega) dX3_readWord_14 (by decide) (fun c_14 => ?_) (fun c_14 => ?_)
    · refine lv_aload_n hx hb dX3_readWord_34 rfl (lv_at hl 1 rfl) ?_
      refine lv_iconst (v := nI 1) hx hb dX3_readWord_35 (by decide) ?_
      have hle_36 := hS.1
      refine va_callv (va_runV (As := [.int (nI 1)]) (rest := []) ⟨hx, hb, hml, hown, hts⟩ (m_X3_bad l g ad fi cn xl _ T n a (show PF T n a fi cn from ⟨hq13, hq14, hq15, hq16, hq17, hq18, hq20, hq5, hq12, hq11⟩) hO 1 (by decide)) (cwV 1 hts (lw_V q1442 q1444 qs34 q69 q1445) rfl rfl rfl hdV_X3_bad ⟨Nat.le_of_ble_eq_true rfl, Nat.le_of_ble_eq_true rfl⟩) (zpreV hK hN (va_recv hK hP (ci := 3) (q0 := 0) rfl rfl) ⟨rfl, hP, hD.weaken (fun _ _ _ _ => trivial)⟩) rfl rfl hl.1 rfl (lv_room (Nat.le_of_ble_eq_true rfl)) dX3_readWord_36 ⟨Nat.le_of_ble_eq_true rfl, Nat.le_of_ble_eq_true rfl⟩) hS (fun q _ h => mA_le hS.1 q h) (mA_le hS.1) (fun u t H locs ht hvm hw_36 hB hzz hkk hS => ?_)
      obtain ⟨hP, hD⟩ := hB
      rw [ht] at hP
      have hD := hD.weaken (fun _ _ _ h => mA_le hle_36 _ h)
      obtain ⟨fi_39, cn_39, xl_39⟩ := u
      obtain ⟨_, hPF_39, hO_39, hxl_39, hfr_39, hcr_39⟩ := hw_36
      have hxl_39 : xl = xl_39 := hxl_39.symm
      subst hxl_39
      have hPF_39 : PF T n (pbad 1 a) fi_39 cn_39 := hPF_39
      have hO_39 : PO T n (pbad 1 a) := hO_39
      have ho__39 := hO_39
      obtain ⟨ho1_39, _, _, ho4_39, ho16_39, hoF_39⟩ := ho__39
      have he13_39 := tkE_le (T := T) ho1_39
      have hk15_39 := tkK_le T n (pbad 1 a).1
      obtain ⟨hq13_39, hq14_39, hq15_39, hq16_39, hq17_39, hq18_39, hq20_39, hq5_39, hq12_39, hq11_39⟩ := hPF_39
      have hfr_39 : ∀ k, (k < 13 ∨ 20 < k ∨ k = 19) → fi_39 k = fi k := fun k hk => (hfr_39 k hk).trans rfl
      have hcr_39 : ∀ k, k ≠ 5 → cn_39 k = cn k := fun k hk => (hcr_39 k hk).trans rfl
      have hP : va_P g.1 zCL (mW g ad fi_39 cn_39 xl) _ := hP
      have hD : va_D (mA ad s.heap.size) (mW g ad fi_39 cn_39 xl) := hD
      refine lv_aload_n hx hb dX3_readWord_39 rfl (lv_at hl 1 rfl) ?_
      refine va_get (D := g.1) (ci := 3) (v := .int (fi_39 17)) (C := RX3) (T := TX3) (N := 30) hx hb hts in_X3 hown hK hP 0 rfl rfl 17 (by decide) (hts _ q1314) (fun _ h9 => h9) rfl dX3_readWord_40 ?_
      refine zti (hq17_39) ?_
      refine zi_ne (tgt := 119) hx hb (by omega) dX3_readWord_43 (by decide) (fun c_43 => ?_) (fun c_43 => ?_)
      · refine lv_iload_n hx hb dX3_readWord_119 rfl (lv_at hl 0 rfl) ?_
        exact W.iret (v := nI 0) hx hb hr (fun t ht hW => ⟨⟨nI 0, (fi_39, cn_39, xl), rfl, (have e0 : pwd0 T n a = pbad 1 a := zif_t ⟨c_6, fun z => c_14 z.1⟩; have hds := pwds_f (wa := wa) (mo := mo) (by rw [e0]; exact pbad_nz : ¬ (pwd0 T n a).2.1 = 0); ⟨congrArg nI hds.2.symm, (show PQ T n (pwds T n wa mo a) fi cn xl (fi_39, cn_39, xl) from by rw [hds.1, e0]; exact ⟨⟨hq13_39, hq14_39, hq15_39, hq16_39, hq17_39, hq18_39, hq20_39, hq5_39, hq12_39, hq11_39⟩, hO_39, rfl, (fun k hk => (hfr_39 k hk)), (fun k hk => (hcr_39 k hk))⟩)⟩), by rw [ht]; exact hP, hD⟩, hS.F ht⟩) hS.2.2 dX3_readWord_120
      · exact absurd c_43 pbad_nz
    · refine lv_aload_n hx hb dX3_readWord_17 rfl (lv_at hl 1 rfl) ?_
      refine va_get (D := g.1) (ci := 3) (v := .int (fi 16)) (C := RX3) (T := TX3) (N := 30) hx hb hts in_X3 hown hK hP 0 rfl rfl 16 (by decide) (hts _ q1313) (fun _ h9 => h9) rfl dX3_readWord_18 ?_
      refine zti (hq16) ?_
      refine lv_i2l hx hb dX3_readWord_21 rfl ?_
      refine lv_ldc2 hx hb hown (hts _ q1434) dX3_readWord_22 ?_
      refine ztl (show (97 : Int64) = lN 97 from rfl) ?_
      refine lv_ldc2 hx hb hown (hts _ q1465) dX3_readWord_25 ?_
      refine ztl (show (100 : Int64) = lN 100 from rfl) ?_
      refine vp_callSi (W.runS (As := [.long ((tkV T n a.1).toInt64), .long (lN 97), .long (lN 100)]) (rest := []) ⟨hx, hb, hml, hown, hts⟩ (m_X3_in l g ((tkV T n a.1).toInt64) (lN 97) (lN 100)) (va_cwS 3 hts (lw_S q1397 q1398 q69 q1399) rfl rfl rfl hdS_X3_in ⟨Nat.le_of_ble_eq_true rfl, Nat.le_of_ble_eq_true rfl⟩) (zpreS hK hN trivial) rfl rfl hl.1 rfl (lv_room (Nat.le_of_ble_eq_true rfl)) dX3_readWord_28 ⟨Nat.le_of_ble_eq_true rfl, Nat.le_of_ble_eq_true rfl⟩) (fun r_28 hr_28 => ?_)
      subst hr_28
      refine zti (show _ = zB (zIn (tkV T n a.1) 97 100) from zB_c (zIn_l (tkV T n a.1) (by omega) (by omega))) ?_
      refine zi_neB (tgt := 39) hx hb dX3_readWord_31 (by decide) (fun c_31 => ?_) (fun c_31 => ?_)
      · have hL0 : pisL T n a.1 := ⟨c_14, c_31⟩
        have hwr := pwr_at (T := T) (n := n) mo a.1
        have hds := pwds_t (wa := wa) (mo := mo) c_6 hL0
        refine zloopW (head := 39) (pwr T n mo a.1) (fun k H locs cells slots ls => ∃ (fi_L39 : Nat → Int32) (cn_L39 : Nat → Nat → Int32), cells = 0 ∧ slots = 0 ∧ va_P g.1 zCL (mW g ad fi_L39 cn_L39 xl) H ∧ va_D (mA ad s.heap.size) (mW g ad fi_L39 cn_L39 xl) ∧ va_S (mA ad s.heap.size) s.heap H locs ∧ lv_has ls 4 [(0, .ref (ad 0)), (1, .int (nI wa)), (2, .int (nI mo)), (3, .int (nI k))] ∧ PF T n (wst T a wa k) fi_L39 cn_L39 ∧ (∀ k, (k < 13 ∨ 20 < k ∨ k = 19) → fi_L39 k = fi k) ∧ (∀ k, k ≠ 5 → cn_L39 k = cn k)) (fun k hv_k ih_39 H locs cells slots ls hI => ?_) 0 (Nat.zero_le _) ?_
        · obtain ⟨fi_L39, cn_L39, rfl, rfl, hP, hD, hS, hl, hPF_L39, hfr_L39, hcr_L39⟩ := hI
          obtain ⟨hq13_L39, hq14_L39, hq15_L39, hq16_L39, hq17_L39, hq18_L39, hq20_L39, hq5_L39, hq12_L39, hq11_L39⟩ := hPF_L39
          have hO_L39 : PO T n (wst T a wa k) := PO.wstk hO hw0 (fun j hj => hwr.2.1 j (by omega))
          have ho__L39 := hO_L39
          obtain ⟨ho1_L39, _, _, ho4_L39, ho16_L39, hoF_L39⟩ := ho__L39
          have he13_L39 := tkE_le (T := T) ho1_L39
          have hk15_L39 := tkK_le T n (wst T a wa k).1
          have hP : va_P g.1 zCL (mW g ad fi_L39 cn_L39 xl) _ := hP
          have hD : va_D (mA ad s.heap.size) (mW g ad fi_L39 cn_L39 xl) := hD
          refine lv_aload_n hx hb dX3_readWord_39 rfl (lv_at hl 0 rfl) ?_
          refine va_get (D := g.1) (ci := 3) (v := .int (fi_L39 17)) (C := RX3) (T := TX3) (N := 30) hx hb hts in_X3 hown hK hP 0 rfl rfl 17 (by decide) (hts _ q1314) (fun _ h9 => h9) rfl dX3_readWord_40 ?_
          refine zti (hq17_L39) ?_
          refine zi_ne (tgt := 119) hx hb (by omega) dX3_readWord_43 (by decide) (fun c_43 => ?_) (fun c_43 => ?_)
          · exact absurd c_6 c_43
          · refine lv_iload_n hx hb dX3_readWord_46 rfl (lv_at hl 3 rfl) ?_
            refine lv_iload_n hx hb dX3_readWord_47 rfl (lv_at hl 2 rfl) ?_
            refine zc_ge (tgt := 119) hx hb (by omega) (by omega) dX3_readWord_48 (by decide) (fun c_48 => ?_) (fun c_48 => ?_)
            · have hkw : pwr T n mo a.1 = k := by
                apply Classical.byContradiction
                intro hq
                have hz := hwr.2.1 k (by omega)
                omega
              subst hkw
              refine lv_iload_n hx hb dX3_readWord_119 rfl (lv_at hl 3 rfl) ?_
              exact W.iret (v := nI (pwr T n mo a.1)) hx hb hr (fun t ht hW => ⟨⟨nI (pwr T n mo a.1), (fi_L39, cn_L39, xl), rfl, ⟨congrArg nI hds.2.symm, (show PQ T n (pwds T n wa mo a) fi cn xl (fi_L39, cn_L39, xl) from by rw [hds.1]; exact ⟨⟨hq13_L39, hq14_L39, hq15_L39, hq16_L39, hq17_L39, hq18_L39, hq20_L39, hq5_L39, hq12_L39, hq11_L39⟩, hO_L39, rfl, (fun k hk => (hfr_L39 k hk)), (fun k hk => (hcr_L39 k hk))⟩)⟩, by rw [ht]; exact hP, hD⟩, hS.F ht⟩) hS.2.2 dX3_readWord_120
            · refine lv_aload_n hx hb dX3_readWord_51 rfl (lv_at hl 0 rfl) ?_
              refine va_get (D := g.1) (ci := 3) (v := .int (fi_L39 15)) (C := RX3) (T := TX3) (N := 30) hx hb hts in_X3 hown hK hP 0 rfl rfl 15 (by decide) (hts _ q1312) (fun _ h9 => h9) rfl dX3_readWord_52 ?_
              refine zti (hq15_L39) ?_
              refine lv_iconst (v := nI 2) hx hb dX3_readWord_55 (by decide) ?_
              refine zc_ne (tgt := 119) hx hb (by omega) (by omega) dX3_readWord_56 (by decide) (fun c_56 => ?_) (fun c_56 => ?_)
              · have hkw : pwr T n mo a.1 = k := by
                  apply Classical.byContradiction
                  intro hq
                  have hz := hwr.2.1 k (by omega)
                  exact c_56 hz.1
                subst hkw
                refine lv_iload_n hx hb dX3_readWord_119 rfl (lv_at hl 3 rfl) ?_
                exact W.iret (v := nI (pwr T n mo a.1)) hx hb hr (fun t ht hW => ⟨⟨nI (pwr T n mo a.1), (fi_L39, cn_L39, xl), rfl, ⟨congrArg nI hds.2.symm, (show PQ T n (pwds T n wa mo a) fi cn xl (fi_L39, cn_L39, xl) from by rw [hds.1]; exact ⟨⟨hq13_L39, hq14_L39, hq15_L39, hq16_L39, hq17_L39, hq18_L39, hq20_L39, hq5_L39, hq12_L39, hq11_L39⟩, hO_L39, rfl, (fun k hk => (hfr_L39 k hk)), (fun k hk => (hcr_L39 k hk))⟩)⟩, by rw [ht]; exact hP, hD⟩, hS.F ht⟩) hS.2.2 dX3_readWord_120
              · refine lv_aload_n hx hb dX3_readWord_59 rfl (lv_at hl 0 rfl) ?_
                refine va_get (D := g.1) (ci := 3) (v := .int (fi_L39 16)) (C := RX3) (T := TX3) (N := 30) hx hb hts in_X3 hown hK hP 0 rfl rfl 16 (by decide) (hts _ q1313) (fun _ h9 => h9) rfl dX3_readWord_60 ?_
                refine zti (hq16_L39) ?_
                refine lv_i2l hx hb dX3_readWord_63 rfl ?_
                refine lv_ldc2 hx hb hown (hts _ q1434) dX3_readWord_64 ?_
                refine ztl (show (97 : Int64) = lN 97 from rfl) ?_
                refine lv_ldc2 hx hb hown (hts _ q1465) dX3_readWord_67 ?_
                refine ztl (show (100 : Int64) = lN 100 from rfl) ?_
                refine vp_callSi (W.runS (As := [.long ((tkV T n (wst T a wa k).1).toInt64), .long (lN 97), .long (lN 100)]) (rest := []) ⟨hx, hb, hml, hown, hts⟩ (m_X3_in l g ((tkV T n (wst T a wa k).1).toInt64) (lN 97) (lN 100)) (va_cwS 3 hts (lw_S q1397 q1398 q69 q1399) rfl rfl rfl hdS_X3_in ⟨Nat.le_of_ble_eq_true rfl, Nat.le_of_ble_eq_true rfl⟩) (zpreS hK hN trivial) rfl rfl hl.1 rfl (lv_room (Nat.le_of_ble_eq_true rfl)) dX3_readWord_70 ⟨Nat.le_of_ble_eq_true rfl, Nat.le_of_ble_eq_true rfl⟩) (fun r_70 hr_70 => ?_)
                subst hr_70
                refine zti (show _ = zB (zIn (tkV T n (wst T a wa k).1) 97 100) from zB_c (zIn_l (tkV T n (wst T a wa k).1) (by omega) (by omega))) ?_
                refine zi_eqB (tgt := 119) hx hb dX3_readWord_73 (by decide) (fun c_73 => ?_) (fun c_73 => ?_)
                · have hkw : pwr T n mo a.1 = k := by
                    apply Classical.byContradiction
                    intro hq
                    have hz := hwr.2.1 k (by omega)
                    exact c_73 hz.2
                  subst hkw
                  refine lv_iload_n hx hb dX3_readWord_119 rfl (lv_at hl 3 rfl) ?_
                  exact W.iret (v := nI (pwr T n mo a.1)) hx hb hr (fun t ht hW => ⟨⟨nI (pwr T n mo a.1), (fi_L39, cn_L39, xl), rfl, ⟨congrArg nI hds.2.symm, (show PQ T n (pwds T n wa mo a) fi cn xl (fi_L39, cn_L39, xl) from by rw [hds.1]; exact ⟨⟨hq13_L39, hq14_L39, hq15_L39, hq16_L39, hq17_L39, hq18_L39, hq20_L39, hq5_L39, hq12_L39, hq11_L39⟩, hO_L39, rfl, (fun k hk => (hfr_L39 k hk)), (fun k hk => (hcr_L39 k hk))⟩)⟩, by rw [ht]; exact hP, hD⟩, hS.F ht⟩) hS.2.2 dX3_readWord_120
                · have hisk : pisL T n (a.1 + k) := ⟨c_56, c_73⟩
                  have hLk := pisL_at hisk
                  have hkw : k < pwr T n mo a.1 := Nat.lt_of_not_le fun z => hwr.2.2 (by omega) (by rw [show pwr T n mo a.1 = k by omega]; exact hisk)
                  have hv9 : tkV T n (wst T a wa k).1 = nI (T (a.1 + k)) := hLk.2.2.2.2
                  refine lv_aload_n hx hb dX3_readWord_76 rfl (lv_at hl 0 rfl) ?_
                  refine va_get (D := g.1) (ci := 3) (v := .ref (ad 5)) (C := RX3) (T := TX3) (N := 30) hx hb hts in_X3 hown hK hP 0 rfl rfl 5 (by decide) (hts _ q1302) (fun _ h9 => h9) rfl dX3_readWord_77 ?_
                  refine lv_iload_n hx hb dX3_readWord_80 rfl (lv_at hl 1 rfl) ?_
                  refine lv_iload_n hx hb dX3_readWord_81 rfl (lv_at hl 3 rfl) ?_
                  refine lv_iadd hx hb dX3_readWord_82 ?_
                  refine zti (nI_add wa k) ?_
                  refine lv_aload_n hx hb dX3_readWord_83 rfl (lv_at hl 0 rfl) ?_
                  refine va_get (D := g.1) (ci := 3) (v := .int (fi_L39 16)) (C := RX3) (T := TX3) (N := 30) hx hb hts in_X3 hown hK hP 0 rfl rfl 16 (by decide) (hts _ q1313) (fun _ h9 => h9) rfl dX3_readWord_84 ?_
                  refine zti (hq16_L39) ?_
                  refine zti (show _ = nI (T (a.1 + k)) from hv9) ?_
                  refine lv_bipush (v := nI 97) hx hb dX3_readWord_87 (by decide) ?_
                  refine lv_isub hx hb dX3_readWord_89 ?_
                  refine zti (pk_sub (a := T (a.1 + k)) (b := 97) (by omega)) ?_
                  refine zast (f := cn_L39 5) hx hb hK hP hD hS 5 0 rfl rfl (j := wa + k) (by omega) (by decide) dX3_readWord_90 (fun H locs hP hD hS => ?_)
                  rw [hq5_L39] at hP hD
                  rw [nF_up] at hP hD
                  have hP : va_P g.1 zCL (mW g ad fi_L39 (va_up cn_L39 5 (nF (va_up ((wst T a wa k).2.2.2.2) (wa + k) (T (a.1 + k) - 97)))) xl) _ := hP
                  have hD : va_D (mA ad s.heap.size) (mW g ad fi_L39 (va_up cn_L39 5 (nF (va_up ((wst T a wa k).2.2.2.2) (wa + k) (T (a.1 + k) - 97)))) xl) := hD
                  refine lv_aload_n hx hb dX3_readWord_91 rfl (lv_at hl 0 rfl) ?_
                  refine lv_dup hx hb dX3_readWord_92 rfl ?_
                  refine va_get (D := g.1) (ci := 3) (v := .int (fi_L39 20)) (C := RX3) (T := TX3) (N := 30) hx hb hts in_X3 hown hK hP 0 rfl rfl 20 (by decide) (hts _ q1317) (fun _ h9 => h9) rfl dX3_readWord_93 ?_
                  refine zti (hq20_L39) ?_
                  refine lv_iconst (v := nI 1) hx hb dX3_readWord_96 (by decide) ?_
                  refine lv_aload_n hx hb dX3_readWord_97 rfl (lv_at hl 0 rfl) ?_
                  refine va_get (D := g.1) (ci := 3) (v := .int (fi_L39 16)) (C := RX3) (T := TX3) (N := 30) hx hb hts in_X3 hown hK hP 0 rfl rfl 16 (by decide) (hts _ q1313) (fun _ h9 => h9) rfl dX3_readWord_98 ?_
                  refine zti (hq16_L39) ?_
                  refine zti (show _ = nI (T (a.1 + k)) from hv9) ?_
                  refine lv_bipush (v := nI 97) hx hb dX3_readWord_101 (by decide) ?_
                  refine lv_isub hx hb dX3_readWord_103 ?_
                  refine zti (pk_sub (a := T (a.1 + k)) (b := 97) (by omega)) ?_
                  refine lv_ishl hx hb dX3_readWord_104 ?_
                  refine zti (zshl1 (a := T (a.1 + k) - 97) (by omega)) ?_
                  refine lv_ior hx hb dX3_readWord_105 ?_
                  refine zti (z_or ((wst T a wa k).2.2.2.1) (2 ^ (T (a.1 + k) - 97))) ?_
                  refine va_put (D := g.1) (ci := 3) (v := .int (nI (((wst T a wa k).2.2.2.1) ||| (2 ^ (T (a.1 + k) - 97))))) (ty := .int) (C := RX3) (T := TX3) (N := 30) hx hb hts in_X3 tyX3 tyX3_ok nmX3 hown hK hP hD hS 0 rfl rfl 20 (by decide) (hts _ q1317) (fun _ h9 => h9) rfl (by decide +kernel) rfl rfl (Nat.le_of_ble_eq_true rfl) dX3_readWord_106 (fun H locs hP hD hS => ?_)
                  have hP : va_P g.1 zCL (mW g ad (va_up fi_L39 20 (nI (((wst T a wa k).2.2.2.1) ||| (2 ^ (T (a.1 + k) - 97))))) (va_up cn_L39 5 (nF (va_up ((wst T a wa k).2.2.2.2) (wa + k) (T (a.1 + k) - 97)))) xl) _ := hP
                  have hD : va_D (mA ad s.heap.size) (mW g ad (va_up fi_L39 20 (nI (((wst T a wa k).2.2.2.1) ||| (2 ^ (T (a.1 + k) - 97))))) (va_up cn_L39 5 (nF (va_up ((wst T a wa k).2.2.2.2) (wa + k) (T (a.1 + k) - 97)))) xl) := hD
                  refine lv_iinc (v := nI (k + 1)) (lv' := [(3, .int (nI (k + 1))), (0, .ref (ad 0)), (1, .int (nI wa)), (2, .int (nI mo))]) hx hb dX3_readWord_109 hl (k := 3) rfl (nI_add k 1) (by decide) rfl (fun ls hl => ?_)
                  refine lv_aload_n hx hb dX3_readWord_112 rfl (lv_at hl 1 rfl) ?_
                  have hle_113 := hS.1
                  refine va_callv (va_runV (As := []) (rest := []) ⟨hx, hb, hml, hown, hts⟩ (m_X3_nextToken l g ad (va_up fi_L39 20 (nI (((wst T a wa k).2.2.2.1) ||| (2 ^ (T (a.1 + k) - 97))))) (va_up cn_L39 5 (nF (va_up ((wst T a wa k).2.2.2.2) (wa + k) (T (a.1 + k) - 97)))) xl _ T n (tkE T n (wst T a wa k).1) hq11_L39 hq12_L39 hq13_L39 (tkE_le hO_L39.1) hn120 hT) (cwV 0 hts (lw_V q1429 q1431 qs32 q69 q1432) rfl rfl rfl hdV_X3_nextToken ⟨Nat.le_of_ble_eq_true rfl, Nat.le_of_ble_eq_true rfl⟩) (zpreV hK hN (va_recv hK hP (ci := 3) (q0 := 0) rfl rfl) ⟨rfl, hP, hD.weaken (fun _ _ _ _ => trivial)⟩) rfl rfl hl.1 rfl (lv_room (Nat.le_of_ble_eq_true rfl)) dX3_readWord_113 ⟨Nat.le_of_ble_eq_true rfl, Nat.le_of_ble_eq_true rfl⟩) hS (fun q _ h => mA_le hS.1 q h) (mA_le hS.1) (fun u t H locs ht hvm hw_113 hB hzz hkk hS => ?_)
                  obtain ⟨hP, hD⟩ := hB
                  rw [ht] at hP
                  have hD := hD.weaken (fun _ _ _ h => mA_le hle_113 _ h)
                  obtain ⟨_, rfl⟩ := hw_113
                  have hP : va_P g.1 zCL (mW g ad (va_up (va_up (va_up (va_up (va_up fi_L39 13 (nI (tkE T n (tkE T n (wst T a wa k).1)))) 14 (nI (tkE T n (wst T a wa k).1))) 15 (nI (tkK T n (tkE T n (wst T a wa k).1)))) 16 (tkV T n (tkE T n (wst T a wa k).1))) 20 (nI (((wst T a wa k).2.2.2.1) ||| (2 ^ (T (a.1 + k) - 97))))) (va_up cn_L39 5 (nF (va_up ((wst T a wa k).2.2.2.2) (wa + k) (T (a.1 + k) - 97)))) xl) _ := hP
                  have hD : va_D (mA ad s.heap.size) (mW g ad (va_up (va_up (va_up (va_up (va_up fi_L39 13 (nI (tkE T n (tkE T n (wst T a wa k).1)))) 14 (nI (tkE T n (wst T a wa k).1))) 15 (nI (tkK T n (tkE T n (wst T a wa k).1)))) 16 (tkV T n (tkE T n (wst T a wa k).1))) 20 (nI (((wst T a wa k).2.2.2.1) ||| (2 ^ (T (a.1 + k) - 97))))) (va_up cn_L39 5 (nF (va_up ((wst T a wa k).2.2.2.2) (wa + k) (T (a.1 + k) - 97)))) xl) := hD
                  refine lv_goto (tgt := 39) hx hb dX3_readWord_116 (by decide) ?_
                  have hE : tkE T n (wst T a wa k).1 = (wst T a wa (k + 1)).1 := hLk.2.2.2.1
                  rw [hE] at hP hD
                  have hP : va_P g.1 zCL (mW g ad (va_up (va_up (va_up (va_up (va_up fi_L39 13 (nI (tkE T n (wst T a wa (k + 1)).1))) 14 (nI ((wst T a wa (k + 1)).1))) 15 (nI (tkK T n (wst T a wa (k + 1)).1))) 16 (tkV T n (wst T a wa (k + 1)).1)) 20 (nI (((wst T a wa k).2.2.2.1) ||| (2 ^ (T (a.1 + k) - 97))))) (va_up cn_L39 5 (nF (va_up ((wst T a wa k).2.2.2.2) (wa + k) (T (a.1 + k) - 97)))) xl) _ := hP
                  have hD : va_D (mA ad s.heap.size) (mW g ad (va_up (va_up (va_up (va_up (va_up fi_L39 13 (nI (tkE T n (wst T a wa (k + 1)).1))) 14 (nI ((wst T a wa (k + 1)).1))) 15 (nI (tkK T n (wst T a wa (k + 1)).1))) 16 (tkV T n (wst T a wa (k + 1)).1)) 20 (nI (((wst T a wa k).2.2.2.1) ||| (2 ^ (T (a.1 + k) - 97))))) (va_up cn_L39 5 (nF (va_up ((wst T a wa k).2.2.2.2) (wa + k) (T (a.1 + k) - 97)))) xl) := hD
                  have h5 : va_up (wst T a wa k).2.2.2.2 (wa + k) (T (a.1 + k) - 97) = (wst T a wa (k + 1)).2.2.2.2 := by have h9 := zcpy_s (fun q => T (a.1 + q) - 97) a.2.2.2.2 0 wa k; rw [Nat.zero_add] at h9; exact h9
                  exact ih_39 (by omega) _ _ _ _ _ ⟨_, _, rfl, rfl, hP, hD, hS, lv_sub hl [1, 2, 3, 0] rfl, ⟨rfl, rfl, rfl, rfl, hq17_L39, hq18_L39, rfl, congrArg nF h5, hq12_L39, hq11_L39⟩, (fun k hk => ((va_up_ne _ _ (by omega)).trans ((va_up_ne _ _ (by omega)).trans ((va_up_ne _ _ (by omega)).trans ((va_up_ne _ _ (by omega)).trans ((va_up_ne _ _ (by omega)).trans (hfr_L39 k hk))))))), (fun k hk => ((va_up_ne _ _ hk).trans (hcr_L39 k hk)))⟩
        · exact ⟨_, _, rfl, rfl, hP, hD, hS, lv_sub hl [1, 2, 3, 0] rfl, (by rw [wst_0]; exact ⟨hq13, hq14, hq15, hq16, hq17, hq18, hq20, hq5, hq12, hq11⟩), (fun k hk => rfl), (fun k hk => rfl)⟩
      · refine lv_aload_n hx hb dX3_readWord_34 rfl (lv_at hl 1 rfl) ?_
        refine lv_iconst (v := nI 1) hx hb dX3_readWord_35 (by decide) ?_
        have hle_36 := hS.1
        refine va_callv (va_runV (As := [.int (nI 1)]) (rest := []) ⟨hx, hb, hml, hown, hts⟩ (m_X3_bad l g ad fi cn xl _ T n a (show PF T n a fi cn from ⟨hq13, hq14, hq15, hq16, hq17, hq18, hq20, hq5, hq12, hq11⟩) hO 1 (by decide)) (cwV 1 hts (lw_V q1442 q1444 qs34 q69 q1445) rfl rfl rfl hdV_X3_bad ⟨Nat.le_of_ble_eq_true rfl, Nat.le_of_ble_eq_true rfl⟩) (zpreV hK hN (va_recv hK hP (ci := 3) (q0 := 0) rfl rfl) ⟨rfl, hP, hD.weaken (fun _ _ _ _ => trivial)⟩) rfl rfl hl.1 rfl (lv_room (Nat.le_of_ble_eq_true rfl)) dX3_readWord_36 ⟨Nat.le_of_ble_eq_true rfl, Nat.le_of_ble_eq_true rfl⟩) hS (fun q _ h => mA_le hS.1 q h) (mA_le hS.1) (fun u t H locs ht hvm hw_36 hB hzz hkk hS => ?_)
        obtain ⟨hP, hD⟩ := hB
        rw [ht] at hP
        have hD := hD.weaken (fun _ _ _ h => mA_le hle_36 _ h)
        obtain ⟨fi_39, cn_39, xl_39⟩ := u
        obtain ⟨_, hPF_39, hO_39, hxl_39, hfr_39, hcr_39⟩ := hw_36
        have hxl_39 : xl = xl_39 := hxl_39.symm
        subst hxl_39
        have hPF_39 : PF T n (pbad 1 a) fi_39 cn_39 := hPF_39
        have hO_39 : PO T n (pbad 1 a) := hO_39
        have ho__39 := hO_39
        obtain ⟨ho1_39, _, _, ho4_39, ho16_39, hoF_39⟩ := ho__39
        have he13_39 := tkE_le (T := T) ho1_39
        have hk15_39 := tkK_le T n (pbad 1 a).1
        obtain ⟨hq13_39, hq14_39, hq15_39, hq16_39, hq17_39, hq18_39, hq20_39, hq5_39, hq12_39, hq11_39⟩ := hPF_39
        have hfr_39 : ∀ k, (k < 13 ∨ 20 < k ∨ k = 19) → fi_39 k = fi k := fun k hk => (hfr_39 k hk).trans rfl
        have hcr_39 : ∀ k, k ≠ 5 → cn_39 k = cn k := fun k hk => (hcr_39 k hk).trans rfl
        have hP : va_P g.1 zCL (mW g ad fi_39 cn_39 xl) _ := hP
        have hD : va_D (mA ad s.heap.size) (mW g ad fi_39 cn_39 xl) := hD
        refine lv_aload_n hx hb dX3_readWord_39 rfl (lv_at hl 1 rfl) ?_
        refine va_get (D := g.1) (ci := 3) (v := .int (fi_39 17)) (C := RX3) (T := TX3) (N := 30) hx hb hts in_X3 hown hK hP 0 rfl rfl 17 (by decide) (hts _ q1314) (fun _ h9 => h9) rfl dX3_readWord_40 ?_
        refine zti (hq17_39) ?_
        refine zi_ne (tgt := 119) hx hb (by omega) dX3_readWord_43 (by decide) (fun c_43 => ?_) (fun c_43 => ?_)
        · refine lv_iload_n hx hb dX3_readWord_119 rfl (lv_at hl 0 rfl) ?_
          exact W.iret (v := nI 0) hx hb hr (fun t ht hW => ⟨⟨nI 0, (fi_39, cn_39, xl), rfl, (have e0 : pwd0 T n a = pbad 1 a := zif_t ⟨c_6, fun z => c_31 z.2⟩; have hds := pwds_f (wa := wa) (mo := mo) (by rw [e0]; exact pbad_nz : ¬ (pwd0 T n a).2.1 = 0); ⟨congrArg nI hds.2.symm, (show PQ T n (pwds T n wa mo a) fi cn xl (fi_39, cn_39, xl) from by rw [hds.1, e0]; exact ⟨⟨hq13_39, hq14_39, hq15_39, hq16_39, hq17_39, hq18_39, hq20_39, hq5_39, hq12_39, hq11_39⟩, hO_39, rfl, (fun k hk => (hfr_39 k hk)), (fun k hk => (hcr_39 k hk))⟩)⟩), by rw [ht]; exact hP, hD⟩, hS.F ht⟩) hS.2.2 dX3_readWord_120
        · exact absurd c_43 pbad_nz
