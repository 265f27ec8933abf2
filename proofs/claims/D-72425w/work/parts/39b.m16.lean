/-! the twin: reading -/
set_option maxHeartbeats 4000000 in
set_option maxRecDepth 100000 in
theorem m_X3_bad (l : Launch) (g : zG) (ad : Nat → Nat) (fi : Nat → Int32) (cn : Nat → Nat → Int32) (xl : Nat → Nat → Int64) (sz : Nat) (T : Nat → Nat) (n : Nat) (a : pS) (hF : PF T n a fi cn) (hO0 : PO T n a) (kb : Nat) (hkb : kb ≤ 4) : Met l yX3_bad (ws_ yX3_bad cX3_bad 2 none) ({ frames := 0, cells := 0, slots := 0, locals := 0 }) (zPc g [.ref (ad 0), .int (nI kb)] (mH g ad fi cn xl sz)) (va_Qv (fun u => True ∧ PQ T n (pbad kb a) fi cn xl u) (mB g ad sz) (mA ad sz)) 0 0 (mA ad sz) := by
  refine Met.ofW (cc := cX3_bad) (maxL := 2) (ret := none) (by decide) rfl ?_
  intro p e s m args below meth c s₁ B0 hml hv
  obtain ⟨rfl, ⟨hK, hN⟩, hsz, hP, hD⟩ := hv
  have hx := B0.exec
  have hb := B0.bytes
  have hr := B0.returns
  have hts := atoms_spec (ws := ws_ yX3_bad cX3_bad 2 none) B0.pre
  have hts : ∀ w ∈ lw_all, w.before _ s = true := fun w h => hts w (List.mem_cons_of_mem _ h)
  have hown : s.vm.findClass RX3 = some m.cls := findClass_of_methodNamed B0.named
  have hlocks := B0.notSynchronized
  subst hsz
  have hD := mD_self s.heap.size hD
  have hS : va_S (mA ad s.heap.size) s.heap s.heap [] := va_S.rf
  have hl := lv_entry ([.ref (ad 0), .int (nI kb)]) (n := 2) (Nat.le_of_ble_eq_true rfl)
  rw [lg_entry_eq]
  generalize (lg_sl ([.ref (ad 0), .int (nI kb)]) ++ List.replicate (2 - (lg_sl ([.ref (ad 0), .int (nI kb)])).length) Slot.unset).toArray = ls at hl ⊢
  have hl : lv_has ls 2 [(0, .ref (ad 0)), (1, .int (nI kb))] := hl
  obtain ⟨hq13, hq14, hq15, hq16, hq17, hq18, hq20, hq5, hq12, hq11⟩ := hF
  have hO := hO0
  obtain ⟨ho1, hn120, hT, ho4, ho16, hoF⟩ := hO0
  have he13 := tkE_le (T := T) ho1
  have hk15 := tkK_le T n a.1
  refine lv_aload_n hx hb dX3_bad_0 rfl (lv_at hl 0 rfl) ?_
  refine va_get (D := g.1) (ci := 3) (v := .int (fi 17)) (C := RX3) (T := TX3) (N := 30) hx hb hts in_X3 hown hK hP 0 rfl rfl 17 (by decide) (hts _ q1314) (fun _ h9 => h9) rfl dX3_bad_1 ?_
  refine zti (hq17) ?_
  refine zi_ne (tgt := 20) hx hb (by omega) dX3_bad_4 (by decide) (fun c_4 => ?_) (fun c_4 => ?_)
  · exact W.vret hx hb hr (fun t ht hW => ⟨⟨(fi, cn, xl), rfl, ⟨trivial, (show PQ T n (pbad kb a) fi cn xl (fi, cn, xl) from by unfold pbad; rw [zif_f c_4]; exact ⟨⟨hq13, hq14, hq15, hq16, hq17, hq18, hq20, hq5, hq12, hq11⟩, hO, rfl, (fun k hk => rfl), (fun k hk => rfl)⟩)⟩, by rw [ht]; exact hP, hD⟩, hS.F ht⟩) hS.2.2 dX3_bad_20
  · refine lv_aload_n hx hb dX3_bad_7 rfl (lv_at hl 0 rfl) ?_
    refine lv_iload_n hx hb dX3_bad_8 rfl (lv_at hl 1 rfl) ?_
    refine va_put (D := g.1) (ci := 3) (v := .int (nI kb)) (ty := .int) (C := RX3) (T := TX3) (N := 30) hx hb hts in_X3 tyX3 tyX3_ok nmX3 hown hK hP hD hS 0 rfl rfl 17 (by decide) (hts _ q1314) (fun _ h9 => h9) rfl (by decide +kernel) rfl rfl (Nat.le_of_ble_eq_true rfl) dX3_bad_9 (fun H locs hP hD hS => ?_)
    have hP : va_P g.1 zCL (mW g ad (va_up fi 17 (nI kb)) cn xl) _ := hP
    have hD : va_D (mA ad s.heap.size) (mW g ad (va_up fi 17 (nI kb)) cn xl) := hD
    refine lv_aload_n hx hb dX3_bad_12 rfl (lv_at hl 0 rfl) ?_
    refine lv_aload_n hx hb dX3_bad_13 rfl (lv_at hl 0 rfl) ?_
    refine va_get (D := g.1) (ci := 3) (v := .int (fi 14)) (C := RX3) (T := TX3) (N := 30) hx hb hts in_X3 hown hK hP 0 rfl rfl 14 (by decide) (hts _ q1311) (fun _ h9 => h9) rfl dX3_bad_14 ?_
    refine zti (hq14) ?_
    refine va_put (D := g.1) (ci := 3) (v := .int (nI a.1)) (ty := .int) (C := RX3) (T := TX3) (N := 30) hx hb hts in_X3 tyX3 tyX3_ok nmX3 hown hK hP hD hS 0 rfl rfl 18 (by decide) (hts _ q1315) (fun _ h9 => h9) rfl (by decide +kernel) rfl rfl (Nat.le_of_ble_eq_true rfl) dX3_bad_17 (fun H locs hP hD hS => ?_)
    have hP : va_P g.1 zCL (mW g ad (va_up (va_up fi 17 (nI kb)) 18 (nI a.1)) cn xl) _ := hP
    have hD : va_D (mA ad s.heap.size) (mW g ad (va_up (va_up fi 17 (nI kb)) 18 (nI a.1)) cn xl) := hD
    exact W.vret hx hb hr (fun t ht hW => ⟨⟨(va_up (va_up fi 17 (nI kb)) 18 (nI a.1), cn, xl), rfl, ⟨trivial, (show PQ T n (pbad kb a) fi cn xl (va_up (va_up fi 17 (nI kb)) 18 (nI a.1), cn, xl) from by unfold pbad; rw [zif_t c_4]; exact ⟨⟨hq13, hq14, hq15, hq16, rfl, (fun _ => rfl), hq20, hq5, hq12, hq11⟩, ⟨ho1, hn120, hT, hkb, ho16, hoF⟩, rfl, (fun k hk => ((va_up_ne _ _ (by omega)).trans ((va_up_ne _ _ (by omega)).trans rfl))), (fun k hk => rfl)⟩)⟩, by rw [ht]; exact hP, hD⟩, hS.F ht⟩) hS.2.2 dX3_bad_20

set_option maxHeartbeats 4000000 in
set_option maxRecDepth 100000 in
theorem m_X3_must (l : Launch) (g : zG) (ad : Nat → Nat) (fi : Nat → Int32) (cn : Nat → Nat → Int32) (xl : Nat → Nat → Int64) (sz : Nat) (T : Nat → Nat) (n : Nat) (a : pS) (hF : PF T n a fi cn) (hO0 : PO T n a) (Pm : Prop) : Met l yX3_must (ws_ yX3_must cX3_must 2 none) ({ frames := 2, cells := 0, slots := 0, locals := 45 }) (zPc g [.ref (ad 0), .int (zB Pm)] (mH g ad fi cn xl sz)) (va_Qv (fun u => True ∧ PQ T n (pmust T n Pm a) fi cn xl u) (mB g ad sz) (mA ad sz)) 0 0 (mA ad sz) := by
  refine Met.ofW (cc := cX3_must) (maxL := 2) (ret := none) (by decide) rfl ?_
  intro p e s m args below meth c s₁ B0 hml hv
  obtain ⟨rfl, ⟨hK, hN⟩, hsz, hP, hD⟩ := hv
  have hx := B0.exec
  have hb := B0.bytes
  have hr := B0.returns
  have hts := atoms_spec (ws := ws_ yX3_must cX3_must 2 none) B0.pre
  have hts : ∀ w ∈ lw_all, w.before _ s = true := fun w h => hts w (List.mem_cons_of_mem _ h)
  have hown : s.vm.findClass RX3 = some m.cls := findClass_of_methodNamed B0.named
  have hlocks := B0.notSynchronized
  subst hsz
  have hD := mD_self s.heap.size hD
  have hS : va_S (mA ad s.heap.size) s.heap s.heap [] := va_S.rf
  have hl := lv_entry ([.ref (ad 0), .int (zB Pm)]) (n := 2) (Nat.le_of_ble_eq_true rfl)
  rw [lg_entry_eq]
  generalize (lg_sl ([.ref (ad 0), .int (zB Pm)]) ++ List.replicate (2 - (lg_sl ([.ref (ad 0), .int (zB Pm)])).length) Slot.unset).toArray = ls at hl ⊢
  have hl : lv_has ls 2 [(0, .ref (ad 0)), (1, .int (zB Pm))] := hl
  obtain ⟨hq13, hq14, hq15, hq16, hq17, hq18, hq20, hq5, hq12, hq11⟩ := hF
  have hO := hO0
  obtain ⟨ho1, hn120, hT, ho4, ho16, hoF⟩ := hO0
  have he13 := tkE_le (T := T) ho1
  have hk15 := tkK_le T n a.1
  refine lv_iload_n hx hb dX3_must_0 rfl (lv_at hl 1 rfl) ?_
  refine zi_neB (tgt := 9) hx hb dX3_must_1 (by decide) (fun c_1 => ?_) (fun c_1 => ?_)
  · refine lv_aload_n hx hb dX3_must_9 rfl (lv_at hl 0 rfl) ?_
    refine va_get (D := g.1) (ci := 3) (v := .int (fi 17)) (C := RX3) (T := TX3) (N := 30) hx hb hts in_X3 hown hK hP 0 rfl rfl 17 (by decide) (hts _ q1314) (fun _ h9 => h9) rfl dX3_must_10 ?_
    refine zti (hq17) ?_
    refine zi_ne (tgt := 20) hx hb (by omega) dX3_must_13 (by decide) (fun c_13 => ?_) (fun c_13 => ?_)
    · exact W.vret hx hb hr (fun t ht hW => ⟨⟨(fi, cn, xl), rfl, ⟨trivial, (show PQ T n (pmust T n Pm a) fi cn xl (fi, cn, xl) from by unfold pmust pgo; rw [zif_t c_1, zif_f c_13]; exact ⟨⟨hq13, hq14, hq15, hq16, hq17, hq18, hq20, hq5, hq12, hq11⟩, hO, rfl, (fun k hk => rfl), (fun k hk => rfl)⟩)⟩, by rw [ht]; exact hP, hD⟩, hS.F ht⟩) hS.2.2 dX3_must_20
    · refine lv_aload_n hx hb dX3_must_16 rfl (lv_at hl 0 rfl) ?_
      have hle_17 := hS.1
      refine va_callv (va_runV (As := []) (rest := []) ⟨hx, hb, hml, hown, hts⟩ (m_X3_nextToken l g ad fi cn xl _ T n (tkE T n a.1) hq11 hq12 hq13 (tkE_le hO.1) hn120 hT) (cwV 0 hts (lw_V q1429 q1431 qs32 q69 q1432) rfl rfl rfl hdV_X3_nextToken ⟨Nat.le_of_ble_eq_true rfl, Nat.le_of_ble_eq_true rfl⟩) (zpreV hK hN (va_recv hK hP (ci := 3) (q0 := 0) rfl rfl) ⟨rfl, hP, hD.weaken (fun _ _ _ _ => trivial)⟩) rfl rfl hl.1 rfl (lv_room (Nat.le_of_ble_eq_true rfl)) dX3_must_17 ⟨Nat.le_of_ble_eq_true rfl, Nat.le_of_ble_eq_true rfl⟩) hS (fun q _ h => mA_le hS.1 q h) (mA_le hS.1) (fun u t H locs ht hvm hw_17 hB hzz hkk hS => ?_)
      obtain ⟨hP, hD⟩ := hB
      rw [ht] at hP
      have hD := hD.weaken (fun _ _ _ h => mA_le hle_17 _ h)
      obtain ⟨_, rfl⟩ := hw_17
      have hP : va_P g.1 zCL (mW g ad (va_up (va_up (va_up (va_up fi 13 (nI (tkE T n (tkE T n a.1)))) 14 (nI (tkE T n a.1))) 15 (nI (tkK T n (tkE T n a.1)))) 16 (tkV T n (tkE T n a.1))) cn xl) _ := hP
      have hD : va_D (mA ad s.heap.size) (mW g ad (va_up (va_up (va_up (va_up fi 13 (nI (tkE T n (tkE T n a.1)))) 14 (nI (tkE T n a.1))) 15 (nI (tkK T n (tkE T n a.1)))) 16 (tkV T n (tkE T n a.1))) cn xl) := hD
      exact W.vret hx hb hr (fun t ht hW => ⟨⟨(va_up (va_up (va_up (va_up fi 13 (nI (tkE T n (tkE T n a.1)))) 14 (nI (tkE T n a.1))) 15 (nI (tkK T n (tkE T n a.1)))) 16 (tkV T n (tkE T n a.1)), cn, xl), rfl, ⟨trivial, (show PQ T n (pmust T n Pm a) fi cn xl (va_up (va_up (va_up (va_up fi 13 (nI (tkE T n (tkE T n a.1)))) 14 (nI (tkE T n a.1))) 15 (nI (tkK T n (tkE T n a.1)))) 16 (tkV T n (tkE T n a.1)), cn, xl) from by unfold pmust pgo; rw [zif_t c_1, zif_t c_13]; exact ⟨⟨rfl, rfl, rfl, rfl, hq17, hq18, hq20, hq5, hq12, hq11⟩, hO.nxt, rfl, (fun k hk => ((va_up_ne _ _ (by omega)).trans ((va_up_ne _ _ (by omega)).trans ((va_up_ne _ _ (by omega)).trans ((va_up_ne _ _ (by omega)).trans rfl))))), (fun k hk => rfl)⟩)⟩, by rw [ht]; exact hP, hD⟩, hS.F ht⟩) hS.2.2 dX3_must_20
  · refine lv_aload_n hx hb dX3_must_4 rfl (lv_at hl 0 rfl) ?_
    refine lv_iconst (v := nI 1) hx hb dX3_must_5 (by decide) ?_
    have hle_6 := hS.1
    refine va_callv (va_runV (As := [.int (nI 1)]) (rest := []) ⟨hx, hb, hml, hown, hts⟩ (m_X3_bad l g ad fi cn xl _ T n a (show PF T n a fi cn from ⟨hq13, hq14, hq15, hq16, hq17, hq18, hq20, hq5, hq12, hq11⟩) hO 1 (by decide)) (cwV 1 hts (lw_V q1442 q1444 qs34 q69 q1445) rfl rfl rfl hdV_X3_bad ⟨Nat.le_of_ble_eq_true rfl, Nat.le_of_ble_eq_true rfl⟩) (zpreV hK hN (va_recv hK hP (ci := 3) (q0 := 0) rfl rfl) ⟨rfl, hP, hD.weaken (fun _ _ _ _ => trivial)⟩) rfl rfl hl.1 rfl (lv_room (Nat.le_of_ble_eq_true rfl)) dX3_must_6 ⟨Nat.le_of_ble_eq_true rfl, Nat.le_of_ble_eq_true rfl⟩) hS (fun q _ h => mA_le hS.1 q h) (mA_le hS.1) (fun u t H locs ht hvm hw_6 hB hzz hkk hS => ?_)
    obtain ⟨hP, hD⟩ := hB
    rw [ht] at hP
    have hD := hD.weaken (fun _ _ _ h => mA_le hle_6 _ h)
    obtain ⟨fi_9, cn_9, xl_9⟩ := u
    obtain ⟨_, hPF_9, hO_9, hxl_9, hfr_9, hcr_9⟩ := hw_6
    have hxl_9 : xl = xl_9 := hxl_9.symm
    subst hxl_9
    have hPF_9 : PF T n (pbad 1 a) fi_9 cn_9 := hPF_9
    have hO_9 : PO T n (pbad 1 a) := hO_9
    have ho__9 := hO_9
    obtain ⟨ho1_9, _, _, ho4_9, ho16_9, hoF_9⟩ := ho__9
    have he13_9 := tkE_le (T := T) ho1_9
    have hk15_9 := tkK_le T n (pbad 1 a).1
    obtain ⟨hq13_9, hq14_9, hq15_9, hq16_9, hq17_9, hq18_9, hq20_9, hq5_9, hq12_9, hq11_9⟩ := hPF_9
    have hfr_9 : ∀ k, (k < 13 ∨ 20 < k ∨ k = 19) → fi_9 k = fi k := fun k hk => (hfr_9 k hk).trans rfl
    have hcr_9 : ∀ k, k ≠ 5 → cn_9 k = cn k := fun k hk => (hcr_9 k hk).trans rfl
    have hP : va_P g.1 zCL (mW g ad fi_9 cn_9 xl) _ := hP
    have hD : va_D (mA ad s.heap.size) (mW g ad fi_9 cn_9 xl) := hD
    refine lv_aload_n hx hb dX3_must_9 rfl (lv_at hl 0 rfl) ?_
    refine va_get (D := g.1) (ci := 3) (v := .int (fi_9 17)) (C := RX3) (T := TX3) (N := 30) hx hb hts in_X3 hown hK hP 0 rfl rfl 17 (by decide) (hts _ q1314) (fun _ h9 => h9) rfl dX3_must_10 ?_
    refine zti (hq17_9) ?_
    refine zi_ne (tgt := 20) hx hb (by omega) dX3_must_13 (by decide) (fun c_13 => ?_) (fun c_13 => ?_)
    · exact W.vret hx hb hr (fun t ht hW => ⟨⟨(fi_9, cn_9, xl), rfl, ⟨trivial, (show PQ T n (pmust T n Pm a) fi cn xl (fi_9, cn_9, xl) from by unfold pmust pgo; rw [zif_f c_1, zif_f c_13]; exact ⟨⟨hq13_9, hq14_9, hq15_9, hq16_9, hq17_9, hq18_9, hq20_9, hq5_9, hq12_9, hq11_9⟩, hO_9, rfl, (fun k hk => (hfr_9 k hk)), (fun k hk => (hcr_9 k hk))⟩)⟩, by rw [ht]; exact hP, hD⟩, hS.F ht⟩) hS.2.2 dX3_must_20
    · refine lv_aload_n hx hb dX3_must_16 rfl (lv_at hl 0 rfl) ?_
      have hle_17 := hS.1
      refine va_callv (va_runV (As := []) (rest := []) ⟨hx, hb, hml, hown, hts⟩ (m_X3_nextToken l g ad fi_9 cn_9 xl _ T n (tkE T n (pbad 1 a).1) hq11_9 hq12_9 hq13_9 (tkE_le hO_9.1) hn120 hT) (cwV 0 hts (lw_V q1429 q1431 qs32 q69 q1432) rfl rfl rfl hdV_X3_nextToken ⟨Nat.le_of_ble_eq_true rfl, Nat.le_of_ble_eq_true rfl⟩) (zpreV hK hN (va_recv hK hP (ci := 3) (q0 := 0) rfl rfl) ⟨rfl, hP, hD.weaken (fun _ _ _ _ => trivial)⟩) rfl rfl hl.1 rfl (lv_room (Nat.le_of_ble_eq_true rfl)) dX3_must_17 ⟨Nat.le_of_ble_eq_true rfl, Nat.le_of_ble_eq_true rfl⟩) hS (fun q _ h => mA_le hS.1 q h) (mA_le hS.1) (fun u t H locs ht hvm hw_17 hB hzz hkk hS => ?_)
      obtain ⟨hP, hD⟩ := hB
      rw [ht] at hP
      have hD := hD.weaken (fun _ _ _ h => mA_le hle_17 _ h)
      obtain ⟨_, rfl⟩ := hw_17
      have hP : va_P g.1 zCL (mW g ad (va_up (va_up (va_up (va_up fi_9 13 (nI (tkE T n (tkE T n (pbad 1 a).1)))) 14 (nI (tkE T n (pbad 1 a).1))) 15 (nI (tkK T n (tkE T n (pbad 1 a).1)))) 16 (tkV T n (tkE T n (pbad 1 a).1))) cn_9 xl) _ := hP
      have hD : va_D (mA ad s.heap.size) (mW g ad (va_up (va_up (va_up (va_up fi_9 13 (nI (tkE T n (tkE T n (pbad 1 a).1)))) 14 (nI (tkE T n (pbad 1 a).1))) 15 (nI (tkK T n (tkE T n (pbad 1 a).1)))) 16 (tkV T n (tkE T n (pbad 1 a).1))) cn_9 xl) := hD
      exact W.vret hx hb hr (fun t ht hW => ⟨⟨(va_up (va_up (va_up (va_up fi_9 13 (nI (tkE T n (tkE T n (pbad 1 a).1)))) 14 (nI (tkE T n (pbad 1 a).1))) 15 (nI (tkK T n (tkE T n (pbad 1 a).1)))) 16 (tkV T n (tkE T n (pbad 1 a).1)), cn_9, xl), rfl, ⟨trivial, (show PQ T n (pmust T n Pm a) fi cn xl (va_up (va_up (va_up (va_up fi_9 13 (nI (tkE T n (tkE T n (pbad 1 a).1)))) 14 (nI (tkE T n (pbad 1 a).1))) 15 (nI (tkK T n (tkE T n (pbad 1 a).1)))) 16 (tkV T n (tkE T n (pbad 1 a).1)), cn_9, xl) from by unfold pmust pgo; rw [zif_f c_1, zif_t c_13]; exact ⟨⟨rfl, rfl, rfl, rfl, hq17_9, hq18_9, hq20_9, hq5_9, hq12_9, hq11_9⟩, hO_9.nxt, rfl, (fun k hk => ((va_up_ne _ _ (by omega)).trans ((va_up_ne _ _ (by omega)).trans ((va_up_ne _ _ (by omega)).trans ((va_up_ne _ _ (by omega)).trans (hfr_9 k hk)))))), (fun k hk => (hcr_9 k hk))⟩)⟩, by rw [ht]; exact hP, hD⟩, hS.F ht⟩) hS.2.2 dX3_must_20
