/-! the twin: public readers -/
set_option maxHeartbeats 4000000 in
set_option maxRecDepth 100000 in
theorem m_X3_status (l : Launch) (g : zG) (ad : Nat → Nat) (fi : Nat → Int32) : Met l yX3_status (ws_ yX3_status cX3_status 1 (some .int)) ({ frames := 0, cells := 0, slots := 0, locals := 0 }) (zPc g [.ref (ad 0)] (fun H => va_P g.1 zCL [(ad 0, .inr (3, mO ad fi))] H)) (vp_Si (fun z : Int32 => z = fi 0)) 0 0 (fun _ => False) := by
  refine Met.ofW (cc := cX3_status) (maxL := 1) (ret := (some .int)) (by decide) rfl ?_
  intro p e s m args below meth c s₁ B0 hml hv
  obtain ⟨rfl, ⟨hK, hN⟩, hP⟩ := hv
  have hx := B0.exec
  have hb := B0.bytes
  have hr := B0.returns
  have hts := atoms_spec (ws := ws_ yX3_status cX3_status 1 (some .int)) B0.pre
  have hts : ∀ w ∈ lw_all, w.before _ s = true := fun w h => hts w (List.mem_cons_of_mem _ h)
  have hown : s.vm.findClass RX3 = some m.cls := findClass_of_methodNamed B0.named
  have hlocks := B0.notSynchronized
  have hl := lv_entry ([.ref (ad 0)]) (n := 1) (Nat.le_of_ble_eq_true rfl)
  rw [lg_entry_eq]
  generalize (lg_sl ([.ref (ad 0)]) ++ List.replicate (1 - (lg_sl ([.ref (ad 0)])).length) Slot.unset).toArray = ls at hl ⊢
  have hl : lv_has ls 1 [(0, .ref (ad 0))] := hl
  refine lv_aload_n hx hb dX3_status_0 rfl (lv_at hl 0 rfl) ?_
  refine va_get (D := g.1) (ci := 3) (v := .int (fi 0)) (C := RX3) (T := TX3) (N := 30) hx hb hts in_X3 hown hK hP 0 rfl rfl 0 (by decide) (hts _ q1297) (fun _ h9 => h9) rfl dX3_status_1 ?_
  exact W.iret (v := fi 0) hx hb hr (fun t ht hW => ⟨_, rfl, rfl, ht⟩) (fun _ h => absurd h List.not_mem_nil) dX3_status_4

set_option maxHeartbeats 4000000 in
set_option maxRecDepth 100000 in
theorem m_X3_fault (l : Launch) (g : zG) (ad : Nat → Nat) (fi : Nat → Int32) : Met l yX3_fault (ws_ yX3_fault cX3_fault 1 (some .int)) ({ frames := 0, cells := 0, slots := 0, locals := 0 }) (zPc g [.ref (ad 0)] (fun H => va_P g.1 zCL [(ad 0, .inr (3, mO ad fi))] H)) (vp_Si (fun z : Int32 => z = fi 19)) 0 0 (fun _ => False) := by
  refine Met.ofW (cc := cX3_fault) (maxL := 1) (ret := (some .int)) (by decide) rfl ?_
  intro p e s m args below meth c s₁ B0 hml hv
  obtain ⟨rfl, ⟨hK, hN⟩, hP⟩ := hv
  have hx := B0.exec
  have hb := B0.bytes
  have hr := B0.returns
  have hts := atoms_spec (ws := ws_ yX3_fault cX3_fault 1 (some .int)) B0.pre
  have hts : ∀ w ∈ lw_all, w.before _ s = true := fun w h => hts w (List.mem_cons_of_mem _ h)
  have hown : s.vm.findClass RX3 = some m.cls := findClass_of_methodNamed B0.named
  have hlocks := B0.notSynchronized
  have hl := lv_entry ([.ref (ad 0)]) (n := 1) (Nat.le_of_ble_eq_true rfl)
  rw [lg_entry_eq]
  generalize (lg_sl ([.ref (ad 0)]) ++ List.replicate (1 - (lg_sl ([.ref (ad 0)])).length) Slot.unset).toArray = ls at hl ⊢
  have hl : lv_has ls 1 [(0, .ref (ad 0))] := hl
  refine lv_aload_n hx hb dX3_fault_0 rfl (lv_at hl 0 rfl) ?_
  refine va_get (D := g.1) (ci := 3) (v := .int (fi 19)) (C := RX3) (T := TX3) (N := 30) hx hb hts in_X3 hown hK hP 0 rfl rfl 19 (by decide) (hts _ q1316) (fun _ h9 => h9) rfl dX3_fault_1 ?_
  exact W.iret (v := fi 19) hx hb hr (fun t ht hW => ⟨_, rfl, rfl, ht⟩) (fun _ h => absurd h List.not_mem_nil) dX3_fault_4

set_option maxHeartbeats 4000000 in
set_option maxRecDepth 100000 in
theorem m_X3_letter (l : Launch) (g : zG) (ad : Nat → Nat) (fi : Nat → Int32) (B : Nat → Nat) (hB : bOK B) (i : Int32) : Met l yX3_letter (ws_ yX3_letter cX3_letter 2 (some .int)) ({ frames := 1, cells := 0, slots := 0, locals := 20 }) (zPc g [.ref (ad 0), .int i] (fun H => va_P g.1 zCL [(ad 0, .inr (3, mO ad fi)), (ad 4, .inl (g.2 0, 44, .inl (nF B)))] H)) (vp_Si (fun z : Int32 => z = opLetter B i)) 0 0 (fun _ => False) := by
  refine Met.ofW (cc := cX3_letter) (maxL := 2) (ret := (some .int)) (by decide) rfl ?_
  intro p e s m args below meth c s₁ B0 hml hv
  obtain ⟨rfl, ⟨hK, hN⟩, hP⟩ := hv
  have hx := B0.exec
  have hb := B0.bytes
  have hr := B0.returns
  have hts := atoms_spec (ws := ws_ yX3_letter cX3_letter 2 (some .int)) B0.pre
  have hts : ∀ w ∈ lw_all, w.before _ s = true := fun w h => hts w (List.mem_cons_of_mem _ h)
  have hown : s.vm.findClass RX3 = some m.cls := findClass_of_methodNamed B0.named
  have hlocks := B0.notSynchronized
  have hl := lv_entry ([.ref (ad 0), .int i]) (n := 2) (Nat.le_of_ble_eq_true rfl)
  rw [lg_entry_eq]
  generalize (lg_sl ([.ref (ad 0), .int i]) ++ List.replicate (2 - (lg_sl ([.ref (ad 0), .int i])).length) Slot.unset).toArray = ls at hl ⊢
  have hl : lv_has ls 2 [(0, .ref (ad 0)), (1, .int i)] := hl
  have h0 : B 0 ≤ 4 := hB.n4
  have h3 : B 3 ≤ 8 := hB.r8
  refine lv_aload_n hx hb dX3_letter_0 rfl (lv_at hl 0 rfl) ?_
  refine vp_callSi (W.runV (As := []) (rest := []) ⟨hx, hb, hml, hown, hts⟩ (m_X3_isThere l g ad fi B hB  ) (cwV 0 hts (lw_V q1517 q1519 qs43 q69 q1520) rfl rfl rfl hdV_X3_isThere ⟨Nat.le_of_ble_eq_true rfl, Nat.le_of_ble_eq_true rfl⟩) (zpreV hK hN (va_recv hK hP (ci := 3) (q0 := 0) rfl rfl) hP) rfl rfl hl.1 rfl (lv_room (Nat.le_of_ble_eq_true rfl)) dX3_letter_1 ⟨Nat.le_of_ble_eq_true rfl, Nat.le_of_ble_eq_true rfl⟩) (fun r_1 hr_1 => ?_)
  subst hr_1
  refine zi_neB (tgt := 10) hx hb dX3_letter_4 (by decide) (fun c_4 => ?_) (fun c_4 => ?_)
  · refine lv_iload_n hx hb dX3_letter_10 rfl (lv_at hl 1 rfl) ?_
    refine lv_if_ge (tgt := 19) hx hb dX3_letter_11 (by decide) (fun c_11 => ?_) (fun c_11 => ?_)
    · obtain ⟨n, rfl, hn⟩ := zge_ex c_11
      refine lv_iload_n hx hb dX3_letter_19 rfl (lv_at hl 1 rfl) ?_
      refine lv_aload_n hx hb dX3_letter_20 rfl (lv_at hl 0 rfl) ?_
      refine va_get (D := g.1) (ci := 3) (v := .ref (ad 4)) (C := RX3) (T := TX3) (N := 30) hx hb hts in_X3 hown hK hP 0 rfl rfl 4 (by decide) (hts _ q1301) (fun _ h9 => h9) rfl dX3_letter_21 ?_
      refine lv_iconst (v := nI 3) hx hb dX3_letter_24 (by decide) ?_
      refine zald hx hb hK hP 1 0 rfl rfl (j := 3) (by omega) (by decide) dX3_letter_25 ?_
      refine zti (show (nF B) 3 = nI (B 3) from rfl) ?_
      refine zc_ge (tgt := 40) hx hb (by omega) (by omega) dX3_letter_26 (by decide) (fun c_26 => ?_) (fun c_26 => ?_)
      · refine lv_ldc hx hb hown (hts _ q1433) dX3_letter_40 ?_
        exact W.iret (v := -1000000) hx hb hr (fun t ht hW => ⟨_, rfl, (by unfold opLetter; (try rw [zn_nI (n := n) (by omega)]); rw [zif_t c_4, zif_t c_11, zif_t c_26]), ht⟩) (fun _ h => absurd h List.not_mem_nil) dX3_letter_42
      · refine lv_aload_n hx hb dX3_letter_29 rfl (lv_at hl 0 rfl) ?_
        refine va_get (D := g.1) (ci := 3) (v := .ref (ad 4)) (C := RX3) (T := TX3) (N := 30) hx hb hts in_X3 hown hK hP 0 rfl rfl 4 (by decide) (hts _ q1301) (fun _ h9 => h9) rfl dX3_letter_30 ?_
        refine lv_iconst (v := nI 4) hx hb dX3_letter_33 (by decide) ?_
        refine lv_iload_n hx hb dX3_letter_34 rfl (lv_at hl 1 rfl) ?_
        refine lv_iadd hx hb dX3_letter_35 ?_
        refine zti (nI_add 4 n) ?_
        refine zald hx hb hK hP 1 0 rfl rfl (j := 4 + n) (by omega) (by decide) dX3_letter_36 ?_
        refine zti (show (nF B) (4 + n) = nI (B (4 + n)) from rfl) ?_
        refine lv_goto (tgt := 42) hx hb dX3_letter_37 (by decide) ?_
        exact W.iret (v := nI (B (4 + n))) hx hb hr (fun t ht hW => ⟨_, rfl, (by unfold opLetter; (try rw [zn_nI (n := n) (by omega)]); rw [zif_t c_4, zif_t c_11, zif_f c_26]), ht⟩) (fun _ h => absurd h List.not_mem_nil) dX3_letter_42
    · refine lv_ldc hx hb hown (hts _ q1401) dX3_letter_14 ?_
      refine lv_goto (tgt := 42) hx hb dX3_letter_16 (by decide) ?_
      exact W.iret (v := -1000001) hx hb hr (fun t ht hW => ⟨_, rfl, (by unfold opLetter; rw [zif_t c_4, zif_f c_11]), ht⟩) (fun _ h => absurd h List.not_mem_nil) dX3_letter_42
  · refine lv_ldc hx hb hown (hts _ q1475) dX3_letter_7 ?_
    exact W.iret (v := -1000002) hx hb hr (fun t ht hW => ⟨_, rfl, (by unfold opLetter; rw [zif_f c_4]), ht⟩) (fun _ h => absurd h List.not_mem_nil) dX3_letter_9

set_option maxHeartbeats 4000000 in
set_option maxRecDepth 100000 in
theorem m_X3_sort (l : Launch) (g : zG) (ad : Nat → Nat) (fi : Nat → Int32) (B : Nat → Nat) (hB : bOK B) (s2 w : Int32) : Met l yX3_sort (ws_ yX3_sort cX3_sort 3 (some .int)) ({ frames := 2, cells := 0, slots := 0, locals := 46 }) (zPc g [.ref (ad 0), .int s2, .int w] (fun H => va_P g.1 zCL [(ad 0, .inr (3, mO ad fi)), (ad 4, .inl (g.2 0, 44, .inl (nF B)))] H)) (vp_Si (fun z : Int32 => z = opSort B s2 w)) 0 0 (fun _ => False) := by
  refine Met.ofW (cc := cX3_sort) (maxL := 3) (ret := (some .int)) (by decide) rfl ?_
  intro p e s m args below meth c s₁ B0 hml hv
  obtain ⟨rfl, ⟨hK, hN⟩, hP⟩ := hv
  have hx := B0.exec
  have hb := B0.bytes
  have hr := B0.returns
  have hts := atoms_spec (ws := ws_ yX3_sort cX3_sort 3 (some .int)) B0.pre
  have hts : ∀ w ∈ lw_all, w.before _ s = true := fun w h => hts w (List.mem_cons_of_mem _ h)
  have hown : s.vm.findClass RX3 = some m.cls := findClass_of_methodNamed B0.named
  have hlocks := B0.notSynchronized
  have hl := lv_entry ([.ref (ad 0), .int s2, .int w]) (n := 3) (Nat.le_of_ble_eq_true rfl)
  rw [lg_entry_eq]
  generalize (lg_sl ([.ref (ad 0), .int s2, .int w]) ++ List.replicate (3 - (lg_sl ([.ref (ad 0), .int s2, .int w])).length) Slot.unset).toArray = ls at hl ⊢
  have hl : lv_has ls 3 [(0, .ref (ad 0)), (1, .int s2), (2, .int w)] := hl
  have h0 : B 0 ≤ 4 := hB.n4
  have h3 : B 3 ≤ 8 := hB.r8
  refine lv_aload_n hx hb dX3_sort_0 rfl (lv_at hl 0 rfl) ?_
  refine lv_iload_n hx hb dX3_sort_1 rfl (lv_at hl 1 rfl) ?_
  refine vp_callSi (W.runV (As := [.int s2]) (rest := []) ⟨hx, hb, hml, hown, hts⟩ (m_X3_isSort l g ad fi B hB s2) (cwV 1 hts (lw_V q1480 q1482 qs39 q69 q1483) rfl rfl rfl hdV_X3_isSort ⟨Nat.le_of_ble_eq_true rfl, Nat.le_of_ble_eq_true rfl⟩) (zpreV hK hN (va_recv hK hP (ci := 3) (q0 := 0) rfl rfl) hP) rfl rfl hl.1 rfl (lv_room (Nat.le_of_ble_eq_true rfl)) dX3_sort_2 ⟨Nat.le_of_ble_eq_true rfl, Nat.le_of_ble_eq_true rfl⟩) (fun r_2 hr_2 => ?_)
  subst hr_2
  refine zi_neB (tgt := 11) hx hb dX3_sort_5 (by decide) (fun c_5 => ?_) (fun c_5 => ?_)
  · obtain ⟨x, rfl, hu_x, hv_x⟩ := zIn_ex c_5 (by omega)
    have hx0 : x < B 0 := by omega
    have hxk := (hB.kd hx0).2
    have hxw := (hB.wl hx0).2
    have hxl := (hB.il hx0).2
    refine lv_iload_n hx hb dX3_sort_11 rfl (lv_at hl 2 rfl) ?_
    refine lv_i2l hx hb dX3_sort_12 rfl ?_
    refine lv_ldc2 hx hb hown (hts _ q1549) dX3_sort_13 ?_
    refine ztl (show (10 : Int64) = lN 10 from rfl) ?_
    refine lv_ldc2 hx hb hown (hts _ q1550) dX3_sort_16 ?_
    refine ztl (show (13 : Int64) = lN 13 from rfl) ?_
    refine vp_callSi (W.runS (As := [.long w.toInt64, .long (lN 10), .long (lN 13)]) (rest := []) ⟨hx, hb, hml, hown, hts⟩ (m_X3_in l g w.toInt64 (lN 10) (lN 13)) (va_cwS 3 hts (lw_S q1397 q1398 q69 q1399) rfl rfl rfl hdS_X3_in ⟨Nat.le_of_ble_eq_true rfl, Nat.le_of_ble_eq_true rfl⟩) (zpreS hK hN trivial) rfl rfl hl.1 rfl (lv_room (Nat.le_of_ble_eq_true rfl)) dX3_sort_19 ⟨Nat.le_of_ble_eq_true rfl, Nat.le_of_ble_eq_true rfl⟩) (fun r_19 hr_19 => ?_)
    subst hr_19
    refine zti (show _ = zB (zIn w 10 13) from zB_c (zIn_l w (by omega) (by omega))) ?_
    refine zi_eqB (tgt := 65) hx hb dX3_sort_22 (by decide) (fun c_22 => ?_) (fun c_22 => ?_)
    · refine lv_iload_n hx hb dX3_sort_65 rfl (lv_at hl 2 rfl) ?_
      refine lv_i2l hx hb dX3_sort_66 rfl ?_
      refine lv_ldc2 hx hb hown (hts _ q1551) dX3_sort_67 ?_
      refine ztl (show (20 : Int64) = lN 20 from rfl) ?_
      refine lv_ldc2 hx hb hown (hts _ q1552) dX3_sort_70 ?_
      refine ztl (show (23 : Int64) = lN 23 from rfl) ?_
      refine vp_callSi (W.runS (As := [.long w.toInt64, .long (lN 20), .long (lN 23)]) (rest := []) ⟨hx, hb, hml, hown, hts⟩ (m_X3_in l g w.toInt64 (lN 20) (lN 23)) (va_cwS 3 hts (lw_S q1397 q1398 q69 q1399) rfl rfl rfl hdS_X3_in ⟨Nat.le_of_ble_eq_true rfl, Nat.le_of_ble_eq_true rfl⟩) (zpreS hK hN trivial) rfl rfl hl.1 rfl (lv_room (Nat.le_of_ble_eq_true rfl)) dX3_sort_73 ⟨Nat.le_of_ble_eq_true rfl, Nat.le_of_ble_eq_true rfl⟩) (fun r_73 hr_73 => ?_)
      subst hr_73
      refine zti (show _ = zB (zIn w 20 23) from zB_c (zIn_l w (by omega) (by omega))) ?_
      refine zi_eqB (tgt := 112) hx hb dX3_sort_76 (by decide) (fun c_76 => ?_) (fun c_76 => ?_)
      · refine lv_iload_n hx hb dX3_sort_112 rfl (lv_at hl 2 rfl) ?_
        rcases zsw3 w with c_113 | c_113 | c_113 | c_113 | c_113
        · refine lv_tableOut (tgt := 179) hx hb dX3_sort_113 c_113 (by decide) ?_
          refine lv_ldc hx hb hown (hts _ q1401) dX3_sort_179 ?_
          exact W.iret (v := -1000001) hx hb hr (fun t ht hW => ⟨_, rfl, (by unfold opSort; (try rw [zn_nI (n := x) (by omega)]); rw [zif_t c_5, zif_f c_22, zif_f c_76, zif_f (znot c_113 (show 0 ≤ 3 from by decide) (by decide)), zif_f (znot c_113 (show 1 ≤ 3 from by decide) (by decide)), zif_f (znot c_113 (show 2 ≤ 3 from by decide) (by decide)), zif_f (znot c_113 (show 3 ≤ 3 from by decide) (by decide))]), ht⟩) (fun _ h => absurd h List.not_mem_nil) dX3_sort_181
        · subst c_113
          refine lv_tableIn (tgt := 144) (off := 31) hx hb dX3_sort_113 (by decide) (by decide) rfl (by decide) ?_
          refine lv_aload_n hx hb dX3_sort_144 rfl (lv_at hl 0 rfl) ?_
          refine va_get (D := g.1) (ci := 3) (v := .ref (ad 4)) (C := RX3) (T := TX3) (N := 30) hx hb hts in_X3 hown hK hP 0 rfl rfl 4 (by decide) (hts _ q1301) (fun _ h9 => h9) rfl dX3_sort_145 ?_
          refine lv_bipush (v := nI 12) hx hb dX3_sort_148 (by decide) ?_
          refine lv_bipush (v := nI 8) hx hb dX3_sort_150 (by decide) ?_
          refine lv_iload_n hx hb dX3_sort_152 rfl (lv_at hl 1 rfl) ?_
          refine lv_imul hx hb dX3_sort_153 ?_
          refine zti (pk_mul 8 x) ?_
          refine lv_iadd hx hb dX3_sort_154 ?_
          refine zti (nI_add 12 (8 * x)) ?_
          refine lv_iconst (v := nI 1) hx hb dX3_sort_155 (by decide) ?_
          refine lv_iadd hx hb dX3_sort_156 ?_
          refine zti (nI_add (12 + 8 * x) 1) ?_
          refine lv_iload_n hx hb dX3_sort_157 rfl (lv_at hl 2 rfl) ?_
          refine lv_iadd hx hb dX3_sort_158 ?_
          refine zti (nI_add (12 + 8 * x + 1) 0) ?_
          refine zald hx hb hK hP 1 0 rfl rfl (j := 12 + 8 * x + 1 + 0) (by omega) (by decide) dX3_sort_159 ?_
          refine zti (show (nF B) (12 + 8 * x + 1 + 0) = nI (B (12 + 8 * x + 1 + 0)) from rfl) ?_
          exact W.iret (v := nI (B (12 + 8 * x + 1 + 0))) hx hb hr (fun t ht hW => ⟨_, rfl, (by unfold opSort; (try rw [zn_nI (n := x) (by omega)]); rw [zif_t c_5, zif_f c_22, zif_f c_76, zif_t (show nI 0 = nI 0 from rfl)]), ht⟩) (fun _ h => absurd h List.not_mem_nil) dX3_sort_160
        · subst c_113
          refine lv_tableIn (tgt := 144) (off := 31) hx hb dX3_sort_113 (by decide) (by decide) rfl (by decide) ?_
          refine lv_aload_n hx hb dX3_sort_144 rfl (lv_at hl 0 rfl) ?_
          refine va_get (D := g.1) (ci := 3) (v := .ref (ad 4)) (C := RX3) (T := TX3) (N := 30) hx hb hts in_X3 hown hK hP 0 rfl rfl 4 (by decide) (hts _ q1301) (fun _ h9 => h9) rfl dX3_sort_145 ?_
          refine lv_bipush (v := nI 12) hx hb dX3_sort_148 (by decide) ?_
          refine lv_bipush (v := nI 8) hx hb dX3_sort_150 (by decide) ?_
          refine lv_iload_n hx hb dX3_sort_152 rfl (lv_at hl 1 rfl) ?_
          refine lv_imul hx hb dX3_sort_153 ?_
          refine zti (pk_mul 8 x) ?_
          refine lv_iadd hx hb dX3_sort_154 ?_
          refine zti (nI_add 12 (8 * x)) ?_
          refine lv_iconst (v := nI 1) hx hb dX3_sort_155 (by decide) ?_
          refine lv_iadd hx hb dX3_sort_156 ?_
          refine zti (nI_add (12 + 8 * x) 1) ?_
          refine lv_iload_n hx hb dX3_sort_157 rfl (lv_at hl 2 rfl) ?_
          refine lv_iadd hx hb dX3_sort_158 ?_
          refine zti (nI_add (12 + 8 * x + 1) 1) ?_
          refine zald hx hb hK hP 1 0 rfl rfl (j := 12 + 8 * x + 1 + 1) (by omega) (by decide) dX3_sort_159 ?_
          refine zti (show (nF B) (12 + 8 * x + 1 + 1) = nI (B (12 + 8 * x + 1 + 1)) from rfl) ?_
          exact W.iret (v := nI (B (12 + 8 * x + 1 + 1))) hx hb hr (fun t ht hW => ⟨_, rfl, (by unfold opSort; (try rw [zn_nI (n := x) (by omega)]); rw [zif_t c_5, zif_f c_22, zif_f c_76, zif_f (show ¬ nI 1 = nI 0 from by decide), zif_t (show nI 1 = nI 1 from rfl)]), ht⟩) (fun _ h => absurd h List.not_mem_nil) dX3_sort_160
        · subst c_113
          refine lv_tableIn (tgt := 161) (off := 48) hx hb dX3_sort_113 (by decide) (by decide) rfl (by decide) ?_
          refine lv_aload_n hx hb dX3_sort_161 rfl (lv_at hl 0 rfl) ?_
          refine va_get (D := g.1) (ci := 3) (v := .ref (ad 4)) (C := RX3) (T := TX3) (N := 30) hx hb hts in_X3 hown hK hP 0 rfl rfl 4 (by decide) (hts _ q1301) (fun _ h9 => h9) rfl dX3_sort_162 ?_
          refine lv_iload_n hx hb dX3_sort_165 rfl (lv_at hl 1 rfl) ?_
          refine vp_callSi (W.runS (As := [.ref (ad 4), .int (nI x)]) (rest := []) ⟨hx, hb, hml, hown, hts⟩ (m_X3_wordSize l g (ad 4) B x (by omega)) (va_cwS 2 hts (lw_S q1497 q1498 q69 q1499) rfl rfl rfl hdS_X3_wordSize ⟨Nat.le_of_ble_eq_true rfl, Nat.le_of_ble_eq_true rfl⟩) (zpreS hK hN (hP.sub [1] rfl)) rfl rfl hl.1 rfl (lv_room (Nat.le_of_ble_eq_true rfl)) dX3_sort_166 ⟨Nat.le_of_ble_eq_true rfl, Nat.le_of_ble_eq_true rfl⟩) (fun r_166 hr_166 => ?_)
          subst hr_166
          exact W.iret (v := nI (bwl B x)) hx hb hr (fun t ht hW => ⟨_, rfl, (by unfold opSort; (try rw [zn_nI (n := x) (by omega)]); rw [zif_t c_5, zif_f c_22, zif_f c_76, zif_f (show ¬ nI 2 = nI 0 from by decide), zif_f (show ¬ nI 2 = nI 1 from by decide), zif_t (show nI 2 = nI 2 from rfl)]), ht⟩) (fun _ h => absurd h List.not_mem_nil) dX3_sort_169
        · subst c_113
          refine lv_tableIn (tgt := 170) (off := 57) hx hb dX3_sort_113 (by decide) (by decide) rfl (by decide) ?_
          refine lv_aload_n hx hb dX3_sort_170 rfl (lv_at hl 0 rfl) ?_
          refine va_get (D := g.1) (ci := 3) (v := .ref (ad 4)) (C := RX3) (T := TX3) (N := 30) hx hb hts in_X3 hown hK hP 0 rfl rfl 4 (by decide) (hts _ q1301) (fun _ h9 => h9) rfl dX3_sort_171 ?_
          refine lv_iload_n hx hb dX3_sort_174 rfl (lv_at hl 1 rfl) ?_
          refine vp_callSi (W.runS (As := [.ref (ad 4), .int (nI x)]) (rest := []) ⟨hx, hb, hml, hown, hts⟩ (m_X3_imageSize l g (ad 4) B x (by omega) (by first | assumption | omega | exact (hB.kd (by omega)).2)) (va_cwS 2 hts (lw_S q1539 q1540 q69 q1541) rfl rfl rfl hdS_X3_imageSize ⟨Nat.le_of_ble_eq_true rfl, Nat.le_of_ble_eq_true rfl⟩) (zpreS hK hN (hP.sub [1] rfl)) rfl rfl hl.1 rfl (lv_room (Nat.le_of_ble_eq_true rfl)) dX3_sort_175 ⟨Nat.le_of_ble_eq_true rfl, Nat.le_of_ble_eq_true rfl⟩) (fun r_175 hr_175 => ?_)
          subst hr_175
          exact W.iret (v := nI (bil B x)) hx hb hr (fun t ht hW => ⟨_, rfl, (by unfold opSort; (try rw [zn_nI (n := x) (by omega)]); rw [zif_t c_5, zif_f c_22, zif_f c_76, zif_f (show ¬ nI 3 = nI 0 from by decide), zif_f (show ¬ nI 3 = nI 1 from by decide), zif_f (show ¬ nI 3 = nI 2 from by decide), zif_t (show nI 3 = nI 3 from rfl)]), ht⟩) (fun _ h => absurd h List.not_mem_nil) dX3_sort_178
      · obtain ⟨n, rfl, hu_n, hv_n⟩ := zIn_ex c_76 (by omega)
        refine lv_iload_n hx hb dX3_sort_79 rfl (lv_at hl 2 rfl) ?_
        refine lv_bipush (v := nI 20) hx hb dX3_sort_80 (by decide) ?_
        refine lv_isub hx hb dX3_sort_82 ?_
        refine zti (pk_sub (a := n) (b := 20) (by omega)) ?_
        refine lv_aload_n hx hb dX3_sort_83 rfl (lv_at hl 0 rfl) ?_
        refine va_get (D := g.1) (ci := 3) (v := .ref (ad 4)) (C := RX3) (T := TX3) (N := 30) hx hb hts in_X3 hown hK hP 0 rfl rfl 4 (by decide) (hts _ q1301) (fun _ h9 => h9) rfl dX3_sort_84 ?_
        refine lv_iload_n hx hb dX3_sort_87 rfl (lv_at hl 1 rfl) ?_
        refine vp_callSi (W.runS (As := [.ref (ad 4), .int (nI x)]) (rest := [.int (nI (n - 20))]) ⟨hx, hb, hml, hown, hts⟩ (m_X3_imageSize l g (ad 4) B x (by omega) (by first | assumption | omega | exact (hB.kd (by omega)).2)) (va_cwS 2 hts (lw_S q1539 q1540 q69 q1541) rfl rfl rfl hdS_X3_imageSize ⟨Nat.le_of_ble_eq_true rfl, Nat.le_of_ble_eq_true rfl⟩) (zpreS hK hN (hP.sub [1] rfl)) rfl rfl hl.1 rfl (lv_room (Nat.le_of_ble_eq_true rfl)) dX3_sort_88 ⟨Nat.le_of_ble_eq_true rfl, Nat.le_of_ble_eq_true rfl⟩) (fun r_88 hr_88 => ?_)
        subst hr_88
        refine zc_ge (tgt := 109) hx hb (by omega) (by omega) dX3_sort_91 (by decide) (fun c_91 => ?_) (fun c_91 => ?_)
        · refine lv_ldc hx hb hown (hts _ q1433) dX3_sort_109 ?_
          exact W.iret (v := -1000000) hx hb hr (fun t ht hW => ⟨_, rfl, (by unfold opSort; (try rw [zn_nI (n := x) (by omega)]); (try rw [zn_nI (n := n) (by omega)]); rw [zif_t c_5, zif_f c_22, zif_t c_76, zif_t c_91]), ht⟩) (fun _ h => absurd h List.not_mem_nil) dX3_sort_111
        · refine lv_aload_n hx hb dX3_sort_94 rfl (lv_at hl 0 rfl) ?_
          refine va_get (D := g.1) (ci := 3) (v := .ref (ad 4)) (C := RX3) (T := TX3) (N := 30) hx hb hts in_X3 hown hK hP 0 rfl rfl 4 (by decide) (hts _ q1301) (fun _ h9 => h9) rfl dX3_sort_95 ?_
          refine lv_iload_n hx hb dX3_sort_98 rfl (lv_at hl 1 rfl) ?_
          refine lv_iload_n hx hb dX3_sort_99 rfl (lv_at hl 2 rfl) ?_
          refine lv_bipush (v := nI 20) hx hb dX3_sort_100 (by decide) ?_
          refine lv_isub hx hb dX3_sort_102 ?_
          refine zti (pk_sub (a := n) (b := 20) (by omega)) ?_
          refine vp_callSi (W.runS (As := [.ref (ad 4), .int (nI x), .int (nI (n - 20))]) (rest := []) ⟨hx, hb, hml, hown, hts⟩ (m_X3_imageAt l g (ad 4) B x (n - 20) (by omega) (by first | assumption | omega | exact (hB.kd (by omega)).2) (by first | assumption | omega | exact (hB.wl (by omega)).2) (by first | assumption | omega)) (va_cwS 3 hts (lw_S q1542 q1543 q69 q1544) rfl rfl rfl hdS_X3_imageAt ⟨Nat.le_of_ble_eq_true rfl, Nat.le_of_ble_eq_true rfl⟩) (zpreS hK hN (hP.sub [1] rfl)) rfl rfl hl.1 rfl (lv_room (Nat.le_of_ble_eq_true rfl)) dX3_sort_103 ⟨Nat.le_of_ble_eq_true rfl, Nat.le_of_ble_eq_true rfl⟩) (fun r_103 hr_103 => ?_)
          subst hr_103
          refine lv_goto (tgt := 111) hx hb dX3_sort_106 (by decide) ?_
          exact W.iret (v := nI (bia B x (n - 20))) hx hb hr (fun t ht hW => ⟨_, rfl, (by unfold opSort; (try rw [zn_nI (n := x) (by omega)]); (try rw [zn_nI (n := n) (by omega)]); rw [zif_t c_5, zif_f c_22, zif_t c_76, zif_f c_91]), ht⟩) (fun _ h => absurd h List.not_mem_nil) dX3_sort_111
    · obtain ⟨n, rfl, hu_n, hv_n⟩ := zIn_ex c_22 (by omega)
      refine lv_iload_n hx hb dX3_sort_25 rfl (lv_at hl 2 rfl) ?_
      refine lv_bipush (v := nI 10) hx hb dX3_sort_26 (by decide) ?_
      refine lv_isub hx hb dX3_sort_28 ?_
      refine zti (pk_sub (a := n) (b := 10) (by omega)) ?_
      refine lv_aload_n hx hb dX3_sort_29 rfl (lv_at hl 0 rfl) ?_
      refine va_get (D := g.1) (ci := 3) (v := .ref (ad 4)) (C := RX3) (T := TX3) (N := 30) hx hb hts in_X3 hown hK hP 0 rfl rfl 4 (by decide) (hts _ q1301) (fun _ h9 => h9) rfl dX3_sort_30 ?_
      refine lv_iload_n hx hb dX3_sort_33 rfl (lv_at hl 1 rfl) ?_
      refine vp_callSi (W.runS (As := [.ref (ad 4), .int (nI x)]) (rest := [.int (nI (n - 10))]) ⟨hx, hb, hml, hown, hts⟩ (m_X3_wordSize l g (ad 4) B x (by omega)) (va_cwS 2 hts (lw_S q1497 q1498 q69 q1499) rfl rfl rfl hdS_X3_wordSize ⟨Nat.le_of_ble_eq_true rfl, Nat.le_of_ble_eq_true rfl⟩) (zpreS hK hN (hP.sub [1] rfl)) rfl rfl hl.1 rfl (lv_room (Nat.le_of_ble_eq_true rfl)) dX3_sort_34 ⟨Nat.le_of_ble_eq_true rfl, Nat.le_of_ble_eq_true rfl⟩) (fun r_34 hr_34 => ?_)
      subst hr_34
      refine zc_ge (tgt := 62) hx hb (by omega) (by omega) dX3_sort_37 (by decide) (fun c_37 => ?_) (fun c_37 => ?_)
      · refine lv_ldc hx hb hown (hts _ q1433) dX3_sort_62 ?_
        exact W.iret (v := -1000000) hx hb hr (fun t ht hW => ⟨_, rfl, (by unfold opSort; (try rw [zn_nI (n := x) (by omega)]); (try rw [zn_nI (n := n) (by omega)]); rw [zif_t c_5, zif_t c_22, zif_t c_37]), ht⟩) (fun _ h => absurd h List.not_mem_nil) dX3_sort_64
      · refine lv_aload_n hx hb dX3_sort_40 rfl (lv_at hl 0 rfl) ?_
        refine va_get (D := g.1) (ci := 3) (v := .ref (ad 4)) (C := RX3) (T := TX3) (N := 30) hx hb hts in_X3 hown hK hP 0 rfl rfl 4 (by decide) (hts _ q1301) (fun _ h9 => h9) rfl dX3_sort_41 ?_
        refine lv_bipush (v := nI 12) hx hb dX3_sort_44 (by decide) ?_
        refine lv_bipush (v := nI 8) hx hb dX3_sort_46 (by decide) ?_
        refine lv_iload_n hx hb dX3_sort_48 rfl (lv_at hl 1 rfl) ?_
        refine lv_imul hx hb dX3_sort_49 ?_
        refine zti (pk_mul 8 x) ?_
        refine lv_iadd hx hb dX3_sort_50 ?_
        refine zti (nI_add 12 (8 * x)) ?_
        refine lv_iconst (v := nI 4) hx hb dX3_sort_51 (by decide) ?_
        refine lv_iadd hx hb dX3_sort_52 ?_
        refine zti (nI_add (12 + 8 * x) 4) ?_
        refine lv_iload_n hx hb dX3_sort_53 rfl (lv_at hl 2 rfl) ?_
        refine lv_iadd hx hb dX3_sort_54 ?_
        refine zti (nI_add (12 + 8 * x + 4) n) ?_
        refine lv_bipush (v := nI 10) hx hb dX3_sort_55 (by decide) ?_
        refine lv_isub hx hb dX3_sort_57 ?_
        refine zti (pk_sub (a := 12 + 8 * x + 4 + n) (b := 10) (by omega)) ?_
        refine zald hx hb hK hP 1 0 rfl rfl (j := 12 + 8 * x + 4 + n - 10) (by omega) (by decide) dX3_sort_58 ?_
        refine zti (show (nF B) (12 + 8 * x + 4 + n - 10) = nI (B (12 + 8 * x + 4 + n - 10)) from rfl) ?_
        refine lv_goto (tgt := 64) hx hb dX3_sort_59 (by decide) ?_
        exact W.iret (v := nI (B (12 + 8 * x + 4 + n - 10))) hx hb hr (fun t ht hW => ⟨_, rfl, (by unfold opSort; (try rw [zn_nI (n := x) (by omega)]); (try rw [zn_nI (n := n) (by omega)]); rw [zif_t c_5, zif_t c_22, zif_f c_37]), ht⟩) (fun _ h => absurd h List.not_mem_nil) dX3_sort_64
  · refine lv_ldc hx hb hown (hts _ q1401) dX3_sort_8 ?_
    exact W.iret (v := -1000001) hx hb hr (fun t ht hW => ⟨_, rfl, (by unfold opSort; rw [zif_f c_5]), ht⟩) (fun _ h => absurd h List.not_mem_nil) dX3_sort_10

set_option maxHeartbeats 4000000 in
set_option maxRecDepth 100000 in
theorem m_X3_kind (l : Launch) (g : zG) (ad : Nat → Nat) (fi : Nat → Int32) (B : Nat → Nat) (hB : bOK B) (s2 : Int32) : Met l yX3_kind (ws_ yX3_kind cX3_kind 2 (some .int)) ({ frames := 2, cells := 0, slots := 0, locals := 46 }) (zPc g [.ref (ad 0), .int s2] (fun H => va_P g.1 zCL [(ad 0, .inr (3, mO ad fi)), (ad 4, .inl (g.2 0, 44, .inl (nF B)))] H)) (vp_Si (fun z : Int32 => z = opKind B s2)) 0 0 (fun _ => False) := by
  refine Met.ofW (cc := cX3_kind) (maxL := 2) (ret := (some .int)) (by decide) rfl ?_
  intro p e s m args below meth c s₁ B0 hml hv
  obtain ⟨rfl, ⟨hK, hN⟩, hP⟩ := hv
  have hx := B0.exec
  have hb := B0.bytes
  have hr := B0.returns
  have hts := atoms_spec (ws := ws_ yX3_kind cX3_kind 2 (some .int)) B0.pre
  have hts : ∀ w ∈ lw_all, w.before _ s = true := fun w h => hts w (List.mem_cons_of_mem _ h)
  have hown : s.vm.findClass RX3 = some m.cls := findClass_of_methodNamed B0.named
  have hlocks := B0.notSynchronized
  have hl := lv_entry ([.ref (ad 0), .int s2]) (n := 2) (Nat.le_of_ble_eq_true rfl)
  rw [lg_entry_eq]
  generalize (lg_sl ([.ref (ad 0), .int s2]) ++ List.replicate (2 - (lg_sl ([.ref (ad 0), .int s2])).length) Slot.unset).toArray = ls at hl ⊢
  have hl : lv_has ls 2 [(0, .ref (ad 0)), (1, .int s2)] := hl
  have h0 : B 0 ≤ 4 := hB.n4
  have h3 : B 3 ≤ 8 := hB.r8
  refine lv_aload_n hx hb dX3_kind_0 rfl (lv_at hl 0 rfl) ?_
  refine lv_iload_n hx hb dX3_kind_1 rfl (lv_at hl 1 rfl) ?_
  refine vp_callSi (W.runV (As := [.int s2]) (rest := []) ⟨hx, hb, hml, hown, hts⟩ (m_X3_isSort l g ad fi B hB s2) (cwV 1 hts (lw_V q1480 q1482 qs39 q69 q1483) rfl rfl rfl hdV_X3_isSort ⟨Nat.le_of_ble_eq_true rfl, Nat.le_of_ble_eq_true rfl⟩) (zpreV hK hN (va_recv hK hP (ci := 3) (q0 := 0) rfl rfl) hP) rfl rfl hl.1 rfl (lv_room (Nat.le_of_ble_eq_true rfl)) dX3_kind_2 ⟨Nat.le_of_ble_eq_true rfl, Nat.le_of_ble_eq_true rfl⟩) (fun r_2 hr_2 => ?_)
  subst hr_2
  refine zi_eqB (tgt := 19) hx hb dX3_kind_5 (by decide) (fun c_5 => ?_) (fun c_5 => ?_)
  · refine lv_ldc hx hb hown (hts _ q1401) dX3_kind_19 ?_
    exact W.iret (v := -1000001) hx hb hr (fun t ht hW => ⟨_, rfl, (by unfold opKind; rw [zif_f c_5]), ht⟩) (fun _ h => absurd h List.not_mem_nil) dX3_kind_21
  · obtain ⟨x, rfl, hu_x, hv_x⟩ := zIn_ex c_5 (by omega)
    refine lv_aload_n hx hb dX3_kind_8 rfl (lv_at hl 0 rfl) ?_
    refine va_get (D := g.1) (ci := 3) (v := .ref (ad 4)) (C := RX3) (T := TX3) (N := 30) hx hb hts in_X3 hown hK hP 0 rfl rfl 4 (by decide) (hts _ q1301) (fun _ h9 => h9) rfl dX3_kind_9 ?_
    refine lv_iload_n hx hb dX3_kind_12 rfl (lv_at hl 1 rfl) ?_
    refine vp_callSi (W.runS (As := [.ref (ad 4), .int (nI x)]) (rest := []) ⟨hx, hb, hml, hown, hts⟩ (m_X3_kindOf l g (ad 4) B x (by omega)) (va_cwS 2 hts (lw_S q1510 q1511 q69 q1512) rfl rfl rfl hdS_X3_kindOf ⟨Nat.le_of_ble_eq_true rfl, Nat.le_of_ble_eq_true rfl⟩) (zpreS hK hN (hP.sub [1] rfl)) rfl rfl hl.1 rfl (lv_room (Nat.le_of_ble_eq_true rfl)) dX3_kind_13 ⟨Nat.le_of_ble_eq_true rfl, Nat.le_of_ble_eq_true rfl⟩) (fun r_13 hr_13 => ?_)
    subst hr_13
    refine lv_goto (tgt := 21) hx hb dX3_kind_16 (by decide) ?_
    exact W.iret (v := nI (bkd B x)) hx hb hr (fun t ht hW => ⟨_, rfl, (by unfold opKind; (try rw [zn_nI (n := x) (by omega)]); rw [zif_t c_5]), ht⟩) (fun _ h => absurd h List.not_mem_nil) dX3_kind_21

set_option maxHeartbeats 4000000 in
set_option maxRecDepth 100000 in
theorem m_X3_trace (l : Launch) (g : zG) (ad : Nat → Nat) (fi : Nat → Int32) (tr : Nat → Nat) (n : Nat) (hn : fi 29 = nI n) (hn16 : n ≤ 16) (i : Int32) : Met l yX3_trace (ws_ yX3_trace cX3_trace 2 (some .int)) ({ frames := 1, cells := 0, slots := 0, locals := 25 }) (zPc g [.ref (ad 0), .int i] (fun H => va_P g.1 zCL [(ad 0, .inr (3, mO ad fi)), (ad 28, .inl (g.2 0, 16, .inl (nF tr)))] H)) (vp_Si (fun z : Int32 => z = opTrace tr n i)) 0 0 (fun _ => False) := by
  refine Met.ofW (cc := cX3_trace) (maxL := 2) (ret := (some .int)) (by decide) rfl ?_
  intro p e s m args below meth c s₁ B0 hml hv
  obtain ⟨rfl, ⟨hK, hN⟩, hP⟩ := hv
  have hx := B0.exec
  have hb := B0.bytes
  have hr := B0.returns
  have hts := atoms_spec (ws := ws_ yX3_trace cX3_trace 2 (some .int)) B0.pre
  have hts : ∀ w ∈ lw_all, w.before _ s = true := fun w h => hts w (List.mem_cons_of_mem _ h)
  have hown : s.vm.findClass RX3 = some m.cls := findClass_of_methodNamed B0.named
  have hlocks := B0.notSynchronized
  have hl := lv_entry ([.ref (ad 0), .int i]) (n := 2) (Nat.le_of_ble_eq_true rfl)
  rw [lg_entry_eq]
  generalize (lg_sl ([.ref (ad 0), .int i]) ++ List.replicate (2 - (lg_sl ([.ref (ad 0), .int i])).length) Slot.unset).toArray = ls at hl ⊢
  have hl : lv_has ls 2 [(0, .ref (ad 0)), (1, .int i)] := hl
  refine lv_iload_n hx hb dX3_trace_0 rfl (lv_at hl 1 rfl) ?_
  refine lv_i2l hx hb dX3_trace_1 rfl ?_
  refine lv_lconst (v := lN 0) hx hb dX3_trace_2 (by decide) ?_
  refine lv_aload_n hx hb dX3_trace_3 rfl (lv_at hl 0 rfl) ?_
  refine va_get (D := g.1) (ci := 3) (v := .int (fi 29)) (C := RX3) (T := TX3) (N := 30) hx hb hts in_X3 hown hK hP 0 rfl rfl 29 (by decide) (hts _ q1326) (fun _ h9 => h9) rfl dX3_trace_4 ?_
  refine zti hn ?_
  refine lv_iconst (v := nI 1) hx hb dX3_trace_7 (by decide) ?_
  refine lv_isub hx hb dX3_trace_8 ?_
  refine lv_i2l hx hb dX3_trace_9 rfl ?_
  refine vp_callSi (W.runS (As := [.long i.toInt64, .long (lN 0), .long (((nI n) - (nI 1)).toInt64)]) (rest := []) ⟨hx, hb, hml, hown, hts⟩ (m_X3_in l g i.toInt64 (lN 0) (((nI n) - (nI 1)).toInt64)) (va_cwS 3 hts (lw_S q1397 q1398 q69 q1399) rfl rfl rfl hdS_X3_in ⟨Nat.le_of_ble_eq_true rfl, Nat.le_of_ble_eq_true rfl⟩) (zpreS hK hN trivial) rfl rfl hl.1 rfl (lv_room (Nat.le_of_ble_eq_true rfl)) dX3_trace_10 ⟨Nat.le_of_ble_eq_true rfl, Nat.le_of_ble_eq_true rfl⟩) (fun r_10 hr_10 => ?_)
  subst hr_10
  refine zti (zB_c (zIn_w i ((nI n) - (nI 1)) (by omega))) ?_
  refine zti (show zB (zIn i 0 ((nI n) - (nI 1)).toInt) = zB (zIn i 0 ((n : Nat) - 1 : Int)) from by rw [show nI 1 = (1 : Int32) from rfl, zpred (by omega)]) ?_
  refine zi_eqB (tgt := 25) hx hb dX3_trace_13 (by decide) (fun c_13 => ?_) (fun c_13 => ?_)
  · refine lv_ldc hx hb hown (hts _ q1433) dX3_trace_25 ?_
    exact W.iret (v := -1000000) hx hb hr (fun t ht hW => ⟨_, rfl, (by unfold opTrace; rw [zif_f c_13]), ht⟩) (fun _ h => absurd h List.not_mem_nil) dX3_trace_27
  · obtain ⟨j, rfl, hu_j, hv_j⟩ := zIn_ex c_13 (by omega)
    refine lv_aload_n hx hb dX3_trace_16 rfl (lv_at hl 0 rfl) ?_
    refine va_get (D := g.1) (ci := 3) (v := .ref (ad 28)) (C := RX3) (T := TX3) (N := 30) hx hb hts in_X3 hown hK hP 0 rfl rfl 28 (by decide) (hts _ q1325) (fun _ h9 => h9) rfl dX3_trace_17 ?_
    refine lv_iload_n hx hb dX3_trace_20 rfl (lv_at hl 1 rfl) ?_
    refine zald hx hb hK hP 1 0 rfl rfl (j := j) (by omega) (by decide) dX3_trace_21 ?_
    refine zti (show (nF tr) j = nI (tr j) from rfl) ?_
    refine lv_goto (tgt := 27) hx hb dX3_trace_22 (by decide) ?_
    exact W.iret (v := nI (tr j)) hx hb hr (fun t ht hW => ⟨_, rfl, (by unfold opTrace; (try rw [zn_nI (n := j) (by omega)]); rw [zif_t c_13]), ht⟩) (fun _ h => absurd h List.not_mem_nil) dX3_trace_27

set_option maxHeartbeats 4000000 in
set_option maxRecDepth 100000 in
theorem m_X3_count (l : Launch) (g : zG) (ad : Nat → Nat) (fi : Nat → Int32) (la : Nat → Int32) (B : Nat → Nat) (hB : bOK B) (ac ta : Nat) (ha : fi 8 = nI ac) (ht2 : fi 12 = nI ta) (w : Int32) : Met l yX3_count (ws_ yX3_count cX3_count 4 (some .int)) ({ frames := 2, cells := 0, slots := 0, locals := 43 }) (zPc g [.ref (ad 0), .int w] (fun H => va_P g.1 zCL [(ad 0, .inr (3, mO ad fi)), (ad 1, .inl (g.2 0, 8, .inl la)), (ad 4, .inl (g.2 0, 44, .inl (nF B)))] H)) (vp_Si (fun z : Int32 => z = opCount la B ac ta w)) 0 0 (fun _ => False) := by
  refine Met.ofW (cc := cX3_count) (maxL := 4) (ret := (some .int)) (by decide) rfl ?_
  intro p e s m args below meth c s₁ B0 hml hv
  obtain ⟨rfl, ⟨hK, hN⟩, hP⟩ := hv
  have hx := B0.exec
  have hb := B0.bytes
  have hr := B0.returns
  have hts := atoms_spec (ws := ws_ yX3_count cX3_count 4 (some .int)) B0.pre
  have hts : ∀ w ∈ lw_all, w.before _ s = true := fun w h => hts w (List.mem_cons_of_mem _ h)
  have hown : s.vm.findClass RX3 = some m.cls := findClass_of_methodNamed B0.named
  have hlocks := B0.notSynchronized
  have hl := lv_entry ([.ref (ad 0), .int w]) (n := 4) (Nat.le_of_ble_eq_true rfl)
  rw [lg_entry_eq]
  generalize (lg_sl ([.ref (ad 0), .int w]) ++ List.replicate (4 - (lg_sl ([.ref (ad 0), .int w])).length) Slot.unset).toArray = ls at hl ⊢
  have hl : lv_has ls 4 [(0, .ref (ad 0)), (1, .int w)] := hl
  have h0 : B 0 ≤ 4 := hB.n4
  have h3 : B 3 ≤ 8 := hB.r8
  refine lv_iconst (v := nI 0) hx hb dX3_count_0 (by decide) ?_
  refine lv_istore_n (lv' := [(2, .int (nI 0)), (0, .ref (ad 0)), (1, .int w)]) hx hb dX3_count_1 rfl hl (by decide) rfl (fun ls hl => ?_)
  refine lv_iload_n hx hb dX3_count_2 rfl (lv_at hl 2 rfl) ?_
  rcases zsw5 w with c_3 | c_3 | c_3 | c_3 | c_3 | c_3 | c_3
  · refine lv_tableOut (tgt := 102) hx hb dX3_count_3 c_3 (by decide) ?_
    refine lv_ldc hx hb hown (hts _ q1401) dX3_count_102 ?_
    exact W.iret (v := -1000001) hx hb hr (fun t ht hW => ⟨_, rfl, (by unfold opCount; rw [zif_f (znot c_3 (show 0 ≤ 5 from by decide) (by decide)), zif_f (znot c_3 (show 1 ≤ 5 from by decide) (by decide)), zif_f (znot c_3 (show 2 ≤ 5 from by decide) (by decide)), zif_f (znot c_3 (show 3 ≤ 5 from by decide) (by decide)), zif_f (znot c_3 (show 4 ≤ 5 from by decide) (by decide)), zif_f (znot c_3 (show 5 ≤ 5 from by decide) (by decide))]), ht⟩) (fun _ h => absurd h List.not_mem_nil) dX3_count_104
  · subst c_3
    refine lv_tableIn (tgt := 40) (off := 37) hx hb dX3_count_3 (by decide) (by decide) rfl (by decide) ?_
    refine lv_iconst (v := nI 0) hx hb dX3_count_40 (by decide) ?_
    refine lv_istore_n (lv' := [(3, .int (nI 0)), (2, .int (nI 0)), (0, .ref (ad 0)), (1, .int (nI 0))]) hx hb dX3_count_41 rfl hl (by decide) rfl (fun ls hl => ?_)
    refine zloop (head := 42) (nL := 4) (8) (fun k => [(0, .ref (ad 0)), (1, .int (nI 0)), (2, .int (nI (zcnt (fun r => ¬ la r < 0) k))), (3, .int (nI k))]) (fun k hv_k ih_42 ls hl => ?_) 0 (Nat.zero_le _) (lv_sub hl [2, 3, 1, 0] rfl)
    refine lv_iload_n hx hb dX3_count_42 rfl (lv_at hl 3 rfl) ?_
    refine lv_bipush (v := nI 8) hx hb dX3_count_43 (by decide) ?_
    refine zc_ge (tgt := 71) hx hb (by omega) (by omega) dX3_count_45 (by decide) (fun c_45 => ?_) (fun c_45 => ?_)
    · obtain rfl : 8 = k := by omega
      refine lv_iload_n hx hb dX3_count_71 rfl (lv_at hl 2 rfl) ?_
      exact W.iret (v := nI (zcnt (fun r => ¬ la r < 0) 8)) hx hb hr (fun t ht hW => ⟨_, rfl, (by unfold opCount; rw [zif_t (show nI 0 = nI 0 from rfl)]), ht⟩) (fun _ h => absurd h List.not_mem_nil) dX3_count_72
    · refine lv_iload_n hx hb dX3_count_48 rfl (lv_at hl 2 rfl) ?_
      refine zjoin (ls := ls) (α := Int32) (fun v9 => v9 = nI (zif (¬ la k < 0) 1 0)) (fun v9 => .int v9 :: [.int (nI (zcnt (fun r => ¬ la r < 0) k))]) 63 (fun v9 hv => ?_) (fun jn_49 => ?_)
      · subst hv
        refine lv_iadd hx hb dX3_count_63 ?_
        refine zti (nI_add (zcnt (fun r => ¬ la r < 0) k) (zif (¬ la k < 0) 1 0)) ?_
        refine lv_istore_n (lv' := [(2, .int (nI (zcnt (fun r => ¬ la r < 0) k + (zif (¬ la k < 0) 1 0)))), (0, .ref (ad 0)), (1, .int (nI 0)), (3, .int (nI k))]) hx hb dX3_count_64 rfl hl (by decide) rfl (fun ls hl => ?_)
        refine lv_iinc (v := nI (k + 1)) (lv' := [(3, .int (nI (k + 1))), (2, .int (nI (zcnt (fun r => ¬ la r < 0) k + (zif (¬ la k < 0) 1 0)))), (0, .ref (ad 0)), (1, .int (nI 0))]) hx hb dX3_count_65 hl (k := 3) rfl (nI_add k 1) (by decide) rfl (fun ls hl => ?_)
        refine lv_goto (tgt := 42) hx hb dX3_count_68 (by decide) ?_
        exact ih_42 (by omega) _ (lv_sub hl [2, 3, 1, 0] rfl)
      · refine lv_aload_n hx hb dX3_count_49 rfl (lv_at hl 0 rfl) ?_
        refine va_get (D := g.1) (ci := 3) (v := .ref (ad 1)) (C := RX3) (T := TX3) (N := 30) hx hb hts in_X3 hown hK hP 0 rfl rfl 1 (by decide) (hts _ q1298) (fun _ h9 => h9) rfl dX3_count_50 ?_
        refine lv_iload_n hx hb dX3_count_53 rfl (lv_at hl 3 rfl) ?_
        refine zald hx hb hK hP 1 0 rfl rfl (j := k) (by omega) (by decide) dX3_count_54 ?_
        refine lv_if_lt (tgt := 62) hx hb dX3_count_55 (by decide) (fun c_55 => ?_) (fun c_55 => ?_)
        · refine lv_iconst (v := nI 0) hx hb dX3_count_62 (by decide) ?_
          exact jn_49 _ ((congrArg nI (zif_f (fun z => z c_55))).symm)
        · refine lv_iconst (v := nI 1) hx hb dX3_count_58 (by decide) ?_
          refine lv_goto (tgt := 63) hx hb dX3_count_59 (by decide) ?_
          exact jn_49 _ ((congrArg nI (zif_t c_55)).symm)
  · subst c_3
    refine lv_tableIn (tgt := 73) (off := 70) hx hb dX3_count_3 (by decide) (by decide) rfl (by decide) ?_
    refine lv_aload_n hx hb dX3_count_73 rfl (lv_at hl 1 rfl) ?_
    refine va_get (D := g.1) (ci := 3) (v := .ref (ad 4)) (C := RX3) (T := TX3) (N := 30) hx hb hts in_X3 hown hK hP 0 rfl rfl 4 (by decide) (hts _ q1301) (fun _ h9 => h9) rfl dX3_count_74 ?_
    refine lv_iconst (v := nI 0) hx hb dX3_count_77 (by decide) ?_
    refine zald hx hb hK hP 2 0 rfl rfl (j := 0) (by omega) (by decide) dX3_count_78 ?_
    refine zti (show (nF B) 0 = nI (B 0) from rfl) ?_
    exact W.iret (v := nI (B 0)) hx hb hr (fun t ht hW => ⟨_, rfl, (by unfold opCount; rw [zif_f (show ¬ nI 1 = nI 0 from by decide), zif_t (show nI 1 = nI 1 from rfl)]), ht⟩) (fun _ h => absurd h List.not_mem_nil) dX3_count_79
  · subst c_3
    refine lv_tableIn (tgt := 80) (off := 77) hx hb dX3_count_3 (by decide) (by decide) rfl (by decide) ?_
    refine lv_aload_n hx hb dX3_count_80 rfl (lv_at hl 1 rfl) ?_
    refine va_get (D := g.1) (ci := 3) (v := .ref (ad 4)) (C := RX3) (T := TX3) (N := 30) hx hb hts in_X3 hown hK hP 0 rfl rfl 4 (by decide) (hts _ q1301) (fun _ h9 => h9) rfl dX3_count_81 ?_
    refine lv_iconst (v := nI 3) hx hb dX3_count_84 (by decide) ?_
    refine zald hx hb hK hP 2 0 rfl rfl (j := 3) (by omega) (by decide) dX3_count_85 ?_
    refine zti (show (nF B) 3 = nI (B 3) from rfl) ?_
    exact W.iret (v := nI (B 3)) hx hb hr (fun t ht hW => ⟨_, rfl, (by unfold opCount; rw [zif_f (show ¬ nI 2 = nI 0 from by decide), zif_f (show ¬ nI 2 = nI 1 from by decide), zif_t (show nI 2 = nI 2 from rfl)]), ht⟩) (fun _ h => absurd h List.not_mem_nil) dX3_count_86
  · subst c_3
    refine lv_tableIn (tgt := 87) (off := 84) hx hb dX3_count_3 (by decide) (by decide) rfl (by decide) ?_
    refine lv_aload_n hx hb dX3_count_87 rfl (lv_at hl 1 rfl) ?_
    refine vp_callSi (W.runV (As := []) (rest := []) ⟨hx, hb, hml, hown, hts⟩ (m_X3_lettersOfAll l g ad fi B hB  ) (cwV 0 hts (lw_V q1731 q1733 qs61 q69 q1734) rfl rfl rfl hdV_X3_lettersOfAll ⟨Nat.le_of_ble_eq_true rfl, Nat.le_of_ble_eq_true rfl⟩) (zpreV hK hN (va_recv hK hP (ci := 3) (q0 := 0) rfl rfl) (hP.sub [0, 2] rfl)) rfl rfl hl.1 rfl (lv_room (Nat.le_of_ble_eq_true rfl)) dX3_count_88 ⟨Nat.le_of_ble_eq_true rfl, Nat.le_of_ble_eq_true rfl⟩) (fun r_88 hr_88 => ?_)
    subst hr_88
    exact W.iret (v := nI (zsum (bwl B) (B 0))) hx hb hr (fun t ht hW => ⟨_, rfl, (by unfold opCount; rw [zif_f (show ¬ nI 3 = nI 0 from by decide), zif_f (show ¬ nI 3 = nI 1 from by decide), zif_f (show ¬ nI 3 = nI 2 from by decide), zif_t (show nI 3 = nI 3 from rfl)]), ht⟩) (fun _ h => absurd h List.not_mem_nil) dX3_count_91
  · subst c_3
    refine lv_tableIn (tgt := 92) (off := 89) hx hb dX3_count_3 (by decide) (by decide) rfl (by decide) ?_
    refine lv_aload_n hx hb dX3_count_92 rfl (lv_at hl 1 rfl) ?_
    refine va_get (D := g.1) (ci := 3) (v := .int (fi 8)) (C := RX3) (T := TX3) (N := 30) hx hb hts in_X3 hown hK hP 0 rfl rfl 8 (by decide) (hts _ q1305) (fun _ h9 => h9) rfl dX3_count_93 ?_
    refine zti (show _ = nI ac from ha) ?_
    exact W.iret (v := nI ac) hx hb hr (fun t ht hW => ⟨_, rfl, (by unfold opCount; rw [zif_f (show ¬ nI 4 = nI 0 from by decide), zif_f (show ¬ nI 4 = nI 1 from by decide), zif_f (show ¬ nI 4 = nI 2 from by decide), zif_f (show ¬ nI 4 = nI 3 from by decide), zif_t (show nI 4 = nI 4 from rfl)]), ht⟩) (fun _ h => absurd h List.not_mem_nil) dX3_count_96
  · subst c_3
    refine lv_tableIn (tgt := 97) (off := 94) hx hb dX3_count_3 (by decide) (by decide) rfl (by decide) ?_
    refine lv_aload_n hx hb dX3_count_97 rfl (lv_at hl 1 rfl) ?_
    refine va_get (D := g.1) (ci := 3) (v := .int (fi 12)) (C := RX3) (T := TX3) (N := 30) hx hb hts in_X3 hown hK hP 0 rfl rfl 12 (by decide) (hts _ q1309) (fun _ h9 => h9) rfl dX3_count_98 ?_
    refine zti (show _ = nI ta from ht2) ?_
    exact W.iret (v := nI ta) hx hb hr (fun t ht hW => ⟨_, rfl, (by unfold opCount; rw [zif_f (show ¬ nI 5 = nI 0 from by decide), zif_f (show ¬ nI 5 = nI 1 from by decide), zif_f (show ¬ nI 5 = nI 2 from by decide), zif_f (show ¬ nI 5 = nI 3 from by decide), zif_f (show ¬ nI 5 = nI 4 from by decide), zif_t (show nI 5 = nI 5 from rfl)]), ht⟩) (fun _ h => absurd h List.not_mem_nil) dX3_count_101

set_option maxHeartbeats 4000000 in
set_option maxRecDepth 100000 in
theorem m_X3_whole (l : Launch) (g : zG) (ad : Nat → Nat) (fi : Nat → Int32) (B : Nat → Nat) (hB : bOK B) (w : Int32) : Met l yX3_whole (ws_ yX3_whole cX3_whole 3 (some .int)) ({ frames := 4, cells := 0, slots := 0, locals := 96 }) (zPc g [.ref (ad 0), .int w] (fun H => va_P g.1 zCL [(ad 0, .inr (3, mO ad fi)), (ad 4, .inl (g.2 0, 44, .inl (nF B)))] H)) (vp_Si (fun z : Int32 => z = opWhole B w)) 0 0 (fun _ => False) := by
  refine Met.ofW (cc := cX3_whole) (maxL := 3) (ret := (some .int)) (by decide) rfl ?_
  intro p e s m args below meth c s₁ B0 hml hv
  obtain ⟨rfl, ⟨hK, hN⟩, hP⟩ := hv
  have hx := B0.exec
  have hb := B0.bytes
  have hr := B0.returns
  have hts := atoms_spec (ws := ws_ yX3_whole cX3_whole 3 (some .int)) B0.pre
  have hts : ∀ w ∈ lw_all, w.before _ s = true := fun w h => hts w (List.mem_cons_of_mem _ h)
  have hown : s.vm.findClass RX3 = some m.cls := findClass_of_methodNamed B0.named
  have hlocks := B0.notSynchronized
  have hl := lv_entry ([.ref (ad 0), .int w]) (n := 3) (Nat.le_of_ble_eq_true rfl)
  rw [lg_entry_eq]
  generalize (lg_sl ([.ref (ad 0), .int w]) ++ List.replicate (3 - (lg_sl ([.ref (ad 0), .int w])).length) Slot.unset).toArray = ls at hl ⊢
  have hl : lv_has ls 3 [(0, .ref (ad 0)), (1, .int w)] := hl
  have h0 : B 0 ≤ 4 := hB.n4
  have h3 : B 3 ≤ 8 := hB.r8
  refine lv_aload_n hx hb dX3_whole_0 rfl (lv_at hl 0 rfl) ?_
  refine vp_callSi (W.runV (As := []) (rest := []) ⟨hx, hb, hml, hown, hts⟩ (m_X3_isThere l g ad fi B hB  ) (cwV 0 hts (lw_V q1517 q1519 qs43 q69 q1520) rfl rfl rfl hdV_X3_isThere ⟨Nat.le_of_ble_eq_true rfl, Nat.le_of_ble_eq_true rfl⟩) (zpreV hK hN (va_recv hK hP (ci := 3) (q0 := 0) rfl rfl) hP) rfl rfl hl.1 rfl (lv_room (Nat.le_of_ble_eq_true rfl)) dX3_whole_1 ⟨Nat.le_of_ble_eq_true rfl, Nat.le_of_ble_eq_true rfl⟩) (fun r_1 hr_1 => ?_)
  subst hr_1
  refine zi_neB (tgt := 10) hx hb dX3_whole_4 (by decide) (fun c_4 => ?_) (fun c_4 => ?_)
  · refine lv_aload_n hx hb dX3_whole_10 rfl (lv_at hl 0 rfl) ?_
    refine vp_callSi (W.runV (As := []) (rest := []) ⟨hx, hb, hml, hown, hts⟩ (m_X3_scale l g ad fi B hB  ) (cwV 0 hts (lw_V q1606 q1608 qs48 q69 q1609) rfl rfl rfl hdV_X3_scale ⟨Nat.le_of_ble_eq_true rfl, Nat.le_of_ble_eq_true rfl⟩) (zpreV hK hN (va_recv hK hP (ci := 3) (q0 := 0) rfl rfl) hP) rfl rfl hl.1 rfl (lv_room (Nat.le_of_ble_eq_true rfl)) dX3_whole_11 ⟨Nat.le_of_ble_eq_true rfl, Nat.le_of_ble_eq_true rfl⟩) (fun r_11 hr_11 => ?_)
    subst hr_11
    refine lv_istore_n (lv' := [(2, .int (bscl B)), (0, .ref (ad 0)), (1, .int w)]) hx hb dX3_whole_14 rfl hl (by decide) rfl (fun ls hl => ?_)
    refine lv_iload_n hx hb dX3_whole_15 rfl (lv_at hl 2 rfl) ?_
    rcases zsw6 w with c_16 | c_16 | c_16 | c_16 | c_16 | c_16 | c_16 | c_16
    · refine lv_tableOut (tgt := 120) hx hb dX3_whole_16 c_16 (by decide) ?_
      refine lv_ldc hx hb hown (hts _ q1401) dX3_whole_120 ?_
      exact W.iret (v := -1000001) hx hb hr (fun t ht hW => ⟨_, rfl, (by unfold opWhole; rw [zif_t c_4, zif_f (znot c_16 (show 0 ≤ 6 from by decide) (by decide)), zif_f (znot c_16 (show 1 ≤ 6 from by decide) (by decide)), zif_f (znot c_16 (show 2 ≤ 6 from by decide) (by decide)), zif_f (znot c_16 (show 3 ≤ 6 from by decide) (by decide)), zif_f (znot c_16 (show 4 ≤ 6 from by decide) (by decide)), zif_f (znot c_16 (show 5 ≤ 6 from by decide) (by decide)), zif_f (znot c_16 (show 6 ≤ 6 from by decide) (by decide))]), ht⟩) (fun _ h => absurd h List.not_mem_nil) dX3_whole_122
    · subst c_16
      refine lv_tableIn (tgt := 60) (off := 44) hx hb dX3_whole_16 (by decide) (by decide) rfl (by decide) ?_
      refine lv_aload_n hx hb dX3_whole_60 rfl (lv_at hl 1 rfl) ?_
      refine va_get (D := g.1) (ci := 3) (v := .ref (ad 4)) (C := RX3) (T := TX3) (N := 30) hx hb hts in_X3 hown hK hP 0 rfl rfl 4 (by decide) (hts _ q1301) (fun _ h9 => h9) rfl dX3_whole_61 ?_
      refine lv_iconst (v := nI 1) hx hb dX3_whole_64 (by decide) ?_
      refine lv_iload_n hx hb dX3_whole_65 rfl (lv_at hl 2 rfl) ?_
      refine lv_iadd hx hb dX3_whole_66 ?_
      refine zti (nI_add 1 0) ?_
      refine zald hx hb hK hP 1 0 rfl rfl (j := 1) (by omega) (by decide) dX3_whole_67 ?_
      refine zti (show (nF B) 1 = nI (B 1) from rfl) ?_
      exact W.iret (v := nI (B 1)) hx hb hr (fun t ht hW => ⟨_, rfl, (by unfold opWhole; rw [zif_t c_4, zif_t (show nI 0 = nI 0 from rfl)]), ht⟩) (fun _ h => absurd h List.not_mem_nil) dX3_whole_68
    · subst c_16
      refine lv_tableIn (tgt := 60) (off := 44) hx hb dX3_whole_16 (by decide) (by decide) rfl (by decide) ?_
      refine lv_aload_n hx hb dX3_whole_60 rfl (lv_at hl 1 rfl) ?_
      refine va_get (D := g.1) (ci := 3) (v := .ref (ad 4)) (C := RX3) (T := TX3) (N := 30) hx hb hts in_X3 hown hK hP 0 rfl rfl 4 (by decide) (hts _ q1301) (fun _ h9 => h9) rfl dX3_whole_61 ?_
      refine lv_iconst (v := nI 1) hx hb dX3_whole_64 (by decide) ?_
      refine lv_iload_n hx hb dX3_whole_65 rfl (lv_at hl 2 rfl) ?_
      refine lv_iadd hx hb dX3_whole_66 ?_
      refine zti (nI_add 1 1) ?_
      refine zald hx hb hK hP 1 0 rfl rfl (j := 2) (by omega) (by decide) dX3_whole_67 ?_
      refine zti (show (nF B) 2 = nI (B 2) from rfl) ?_
      exact W.iret (v := nI (B 2)) hx hb hr (fun t ht hW => ⟨_, rfl, (by unfold opWhole; rw [zif_t c_4, zif_f (show ¬ nI 1 = nI 0 from by decide), zif_t (show nI 1 = nI 1 from rfl)]), ht⟩) (fun _ h => absurd h List.not_mem_nil) dX3_whole_68
    · subst c_16
      refine lv_tableIn (tgt := 60) (off := 44) hx hb dX3_whole_16 (by decide) (by decide) rfl (by decide) ?_
      refine lv_aload_n hx hb dX3_whole_60 rfl (lv_at hl 1 rfl) ?_
      refine va_get (D := g.1) (ci := 3) (v := .ref (ad 4)) (C := RX3) (T := TX3) (N := 30) hx hb hts in_X3 hown hK hP 0 rfl rfl 4 (by decide) (hts _ q1301) (fun _ h9 => h9) rfl dX3_whole_61 ?_
      refine lv_iconst (v := nI 1) hx hb dX3_whole_64 (by decide) ?_
      refine lv_iload_n hx hb dX3_whole_65 rfl (lv_at hl 2 rfl) ?_
      refine lv_iadd hx hb dX3_whole_66 ?_
      refine zti (nI_add 1 2) ?_
      refine zald hx hb hK hP 1 0 rfl rfl (j := 3) (by omega) (by decide) dX3_whole_67 ?_
      refine zti (show (nF B) 3 = nI (B 3) from rfl) ?_
      exact W.iret (v := nI (B 3)) hx hb hr (fun t ht hW => ⟨_, rfl, (by unfold opWhole; rw [zif_t c_4, zif_f (show ¬ nI 2 = nI 0 from by decide), zif_f (show ¬ nI 2 = nI 1 from by decide), zif_t (show nI 2 = nI 2 from rfl)]), ht⟩) (fun _ h => absurd h List.not_mem_nil) dX3_whole_68
    · subst c_16
      refine lv_tableIn (tgt := 69) (off := 53) hx hb dX3_whole_16 (by decide) (by decide) rfl (by decide) ?_
      refine lv_aload_n hx hb dX3_whole_69 rfl (lv_at hl 1 rfl) ?_
      refine va_get (D := g.1) (ci := 3) (v := .ref (ad 4)) (C := RX3) (T := TX3) (N := 30) hx hb hts in_X3 hown hK hP 0 rfl rfl 4 (by decide) (hts _ q1301) (fun _ h9 => h9) rfl dX3_whole_70 ?_
      refine vp_callSi (W.runS (As := [.ref (ad 4)]) (rest := []) ⟨hx, hb, hml, hown, hts⟩ (m_X3_pairsOf l g (ad 4) B  hB) (va_cwS 1 hts (lw_S q1614 q1615 q69 q1616) rfl rfl rfl hdS_X3_pairsOf ⟨Nat.le_of_ble_eq_true rfl, Nat.le_of_ble_eq_true rfl⟩) (zpreS hK hN (hP.sub [1] rfl)) rfl rfl hl.1 rfl (lv_room (Nat.le_of_ble_eq_true rfl)) dX3_whole_73 ⟨Nat.le_of_ble_eq_true rfl, Nat.le_of_ble_eq_true rfl⟩) (fun r_73 hr_73 => ?_)
      subst hr_73
      exact W.iret (v := nI (bpairs B)) hx hb hr (fun t ht hW => ⟨_, rfl, (by unfold opWhole; rw [zif_t c_4, zif_f (show ¬ nI 3 = nI 0 from by decide), zif_f (show ¬ nI 3 = nI 1 from by decide), zif_f (show ¬ nI 3 = nI 2 from by decide), zif_t (show nI 3 = nI 3 from rfl)]), ht⟩) (fun _ h => absurd h List.not_mem_nil) dX3_whole_76
    · subst c_16
      refine lv_tableIn (tgt := 77) (off := 61) hx hb dX3_whole_16 (by decide) (by decide) rfl (by decide) ?_
      refine lv_aload_n hx hb dX3_whole_77 rfl (lv_at hl 1 rfl) ?_
      refine va_get (D := g.1) (ci := 3) (v := .ref (ad 4)) (C := RX3) (T := TX3) (N := 30) hx hb hts in_X3 hown hK hP 0 rfl rfl 4 (by decide) (hts _ q1301) (fun _ h9 => h9) rfl dX3_whole_78 ?_
      have hpr := hB.prs
      refine vp_callSi (W.runS (As := [.ref (ad 4)]) (rest := []) ⟨hx, hb, hml, hown, hts⟩ (m_X3_pairsOf l g (ad 4) B  hB) (va_cwS 1 hts (lw_S q1614 q1615 q69 q1616) rfl rfl rfl hdS_X3_pairsOf ⟨Nat.le_of_ble_eq_true rfl, Nat.le_of_ble_eq_true rfl⟩) (zpreS hK hN (hP.sub [1] rfl)) rfl rfl hl.1 rfl (lv_room (Nat.le_of_ble_eq_true rfl)) dX3_whole_81 ⟨Nat.le_of_ble_eq_true rfl, Nat.le_of_ble_eq_true rfl⟩) (fun r_81 hr_81 => ?_)
      subst hr_81
      refine vp_callSi (W.runS (As := [.int (nI (bpairs B))]) (rest := []) ⟨hx, hb, hml, hown, hts⟩ (m_X3_sizeOf l g (nI (bpairs B))) (va_cwS 1 hts (lw_S q1620 q1621 q69 q1622) rfl rfl rfl hdS_X3_sizeOf ⟨Nat.le_of_ble_eq_true rfl, Nat.le_of_ble_eq_true rfl⟩) (zpreS hK hN trivial) rfl rfl hl.1 rfl (lv_room (Nat.le_of_ble_eq_true rfl)) dX3_whole_84 ⟨Nat.le_of_ble_eq_true rfl, Nat.le_of_ble_eq_true rfl⟩) (fun r_84 hr_84 => ?_)
      subst hr_84
      exact W.iret (v := nI (zsz (nI (bpairs B)))) hx hb hr (fun t ht hW => ⟨_, rfl, (by unfold opWhole; rw [zif_t c_4, zif_f (show ¬ nI 4 = nI 0 from by decide), zif_f (show ¬ nI 4 = nI 1 from by decide), zif_f (show ¬ nI 4 = nI 2 from by decide), zif_f (show ¬ nI 4 = nI 3 from by decide), zif_t (show nI 4 = nI 4 from rfl)]), ht⟩) (fun _ h => absurd h List.not_mem_nil) dX3_whole_87
    · subst c_16
      refine lv_tableIn (tgt := 88) (off := 72) hx hb dX3_whole_16 (by decide) (by decide) rfl (by decide) ?_
      refine lv_iload_n hx hb dX3_whole_88 rfl (lv_at hl 0 rfl) ?_
      refine lv_ldc hx hb hown (hts _ q1433) dX3_whole_89 ?_
      refine lv_icmp_ne (tgt := 99) hx hb dX3_whole_91 (by decide) (fun c_91 => ?_) (fun c_91 => ?_)
      · refine lv_iload_n hx hb dX3_whole_99 rfl (lv_at hl 0 rfl) ?_
        refine lv_bipush (v := nI 10) hx hb dX3_whole_100 (by decide) ?_
        refine lv_idiv hx hb dX3_whole_102 (by decide) ?_
        exact W.iret (v := (bscl B) / (nI 10)) hx hb hr (fun t ht hW => ⟨_, rfl, (by unfold opWhole; rw [zif_t c_4, zif_f (show ¬ nI 5 = nI 0 from by decide), zif_f (show ¬ nI 5 = nI 1 from by decide), zif_f (show ¬ nI 5 = nI 2 from by decide), zif_f (show ¬ nI 5 = nI 3 from by decide), zif_f (show ¬ nI 5 = nI 4 from by decide), zif_t (show nI 5 = nI 5 from rfl), zif_f c_91]), ht⟩) (fun _ h => absurd h List.not_mem_nil) dX3_whole_103
      · refine lv_ldc hx hb hown (hts _ q1433) dX3_whole_94 ?_
        refine lv_goto (tgt := 103) hx hb dX3_whole_96 (by decide) ?_
        exact W.iret (v := -1000000) hx hb hr (fun t ht hW => ⟨_, rfl, (by unfold opWhole; rw [zif_t c_4, zif_f (show ¬ nI 5 = nI 0 from by decide), zif_f (show ¬ nI 5 = nI 1 from by decide), zif_f (show ¬ nI 5 = nI 2 from by decide), zif_f (show ¬ nI 5 = nI 3 from by decide), zif_f (show ¬ nI 5 = nI 4 from by decide), zif_t (show nI 5 = nI 5 from rfl), zif_t c_91]), ht⟩) (fun _ h => absurd h List.not_mem_nil) dX3_whole_103
    · subst c_16
      refine lv_tableIn (tgt := 104) (off := 88) hx hb dX3_whole_16 (by decide) (by decide) rfl (by decide) ?_
      refine lv_iload_n hx hb dX3_whole_104 rfl (lv_at hl 0 rfl) ?_
      refine lv_ldc hx hb hown (hts _ q1433) dX3_whole_105 ?_
      refine lv_icmp_ne (tgt := 115) hx hb dX3_whole_107 (by decide) (fun c_107 => ?_) (fun c_107 => ?_)
      · refine lv_iload_n hx hb dX3_whole_115 rfl (lv_at hl 0 rfl) ?_
        refine lv_bipush (v := nI 10) hx hb dX3_whole_116 (by decide) ?_
        refine lv_irem hx hb dX3_whole_118 (by decide) ?_
        exact W.iret (v := (bscl B) - (bscl B) / (nI 10) * (nI 10)) hx hb hr (fun t ht hW => ⟨_, rfl, (by unfold opWhole; rw [zif_t c_4, zif_f (show ¬ nI 6 = nI 0 from by decide), zif_f (show ¬ nI 6 = nI 1 from by decide), zif_f (show ¬ nI 6 = nI 2 from by decide), zif_f (show ¬ nI 6 = nI 3 from by decide), zif_f (show ¬ nI 6 = nI 4 from by decide), zif_f (show ¬ nI 6 = nI 5 from by decide), zif_t (show nI 6 = nI 6 from rfl), zif_f c_107]), ht⟩) (fun _ h => absurd h List.not_mem_nil) dX3_whole_119
      · refine lv_ldc hx hb hown (hts _ q1433) dX3_whole_110 ?_
        refine lv_goto (tgt := 119) hx hb dX3_whole_112 (by decide) ?_
        exact W.iret (v := -1000000) hx hb hr (fun t ht hW => ⟨_, rfl, (by unfold opWhole; rw [zif_t c_4, zif_f (show ¬ nI 6 = nI 0 from by decide), zif_f (show ¬ nI 6 = nI 1 from by decide), zif_f (show ¬ nI 6 = nI 2 from by decide), zif_f (show ¬ nI 6 = nI 3 from by decide), zif_f (show ¬ nI 6 = nI 4 from by decide), zif_f (show ¬ nI 6 = nI 5 from by decide), zif_t (show nI 6 = nI 6 from rfl), zif_t c_107]), ht⟩) (fun _ h => absurd h List.not_mem_nil) dX3_whole_119
  · refine lv_ldc hx hb hown (hts _ q1475) dX3_whole_7 ?_
    exact W.iret (v := -1000002) hx hb hr (fun t ht hW => ⟨_, rfl, (by unfold opWhole; rw [zif_f c_4]), ht⟩) (fun _ h => absurd h List.not_mem_nil) dX3_whole_9

set_option maxHeartbeats 4000000 in
set_option maxRecDepth 100000 in
theorem m_X3_sets (l : Launch) (g : zG) (ad : Nat → Nat) (fi : Nat → Int32) (B : Nat → Nat) (hB : bOK B) (v2 w2 : Int32) : Met l yX3_sets (ws_ yX3_sets cX3_sets 10 (some .int)) ({ frames := 2, cells := 0, slots := 0, locals := 43 }) (zPc g [.ref (ad 0), .int v2, .int w2] (fun H => va_P g.1 zCL [(ad 0, .inr (3, mO ad fi)), (ad 4, .inl (g.2 0, 44, .inl (nF B)))] H)) (vp_Si (fun z : Int32 => z = opSets B v2 w2)) 0 0 (fun _ => False) := by
  refine Met.ofW (cc := cX3_sets) (maxL := 10) (ret := (some .int)) (by decide) rfl ?_
  intro p e s m args below meth c s₁ B0 hml hv
  obtain ⟨rfl, ⟨hK, hN⟩, hP⟩ := hv
  have hx := B0.exec
  have hb := B0.bytes
  have hr := B0.returns
  have hts := atoms_spec (ws := ws_ yX3_sets cX3_sets 10 (some .int)) B0.pre
  have hts : ∀ w ∈ lw_all, w.before _ s = true := fun w h => hts w (List.mem_cons_of_mem _ h)
  have hown : s.vm.findClass RX3 = some m.cls := findClass_of_methodNamed B0.named
  have hlocks := B0.notSynchronized
  have hl := lv_entry ([.ref (ad 0), .int v2, .int w2]) (n := 10) (Nat.le_of_ble_eq_true rfl)
  rw [lg_entry_eq]
  generalize (lg_sl ([.ref (ad 0), .int v2, .int w2]) ++ List.replicate (10 - (lg_sl ([.ref (ad 0), .int v2, .int w2])).length) Slot.unset).toArray = ls at hl ⊢
  have hl : lv_has ls 10 [(0, .ref (ad 0)), (1, .int v2), (2, .int w2)] := hl
  have h0 : B 0 ≤ 4 := hB.n4
  have h3 : B 3 ≤ 8 := hB.r8
  have hpw := hB.pw
  refine lv_aload_n hx hb dX3_sets_0 rfl (lv_at hl 0 rfl) ?_
  refine vp_callSi (W.runV (As := []) (rest := []) ⟨hx, hb, hml, hown, hts⟩ (m_X3_isThere l g ad fi B hB  ) (cwV 0 hts (lw_V q1517 q1519 qs43 q69 q1520) rfl rfl rfl hdV_X3_isThere ⟨Nat.le_of_ble_eq_true rfl, Nat.le_of_ble_eq_true rfl⟩) (zpreV hK hN (va_recv hK hP (ci := 3) (q0 := 0) rfl rfl) hP) rfl rfl hl.1 rfl (lv_room (Nat.le_of_ble_eq_true rfl)) dX3_sets_1 ⟨Nat.le_of_ble_eq_true rfl, Nat.le_of_ble_eq_true rfl⟩) (fun r_1 hr_1 => ?_)
  subst hr_1
  refine zi_neB (tgt := 10) hx hb dX3_sets_4 (by decide) (fun c_4 => ?_) (fun c_4 => ?_)
  · refine lv_iload_n hx hb dX3_sets_10 rfl (lv_at hl 1 rfl) ?_
    refine lv_i2l hx hb dX3_sets_11 rfl ?_
    refine lv_lconst (v := lN 0) hx hb dX3_sets_12 (by decide) ?_
    refine lv_ldc2 hx hb hown (hts _ q1661) dX3_sets_13 ?_
    refine ztl (show (99 : Int64) = lN 99 from rfl) ?_
    refine vp_callSi (W.runS (As := [.long v2.toInt64, .long (lN 0), .long (lN 99)]) (rest := []) ⟨hx, hb, hml, hown, hts⟩ (m_X3_in l g v2.toInt64 (lN 0) (lN 99)) (va_cwS 3 hts (lw_S q1397 q1398 q69 q1399) rfl rfl rfl hdS_X3_in ⟨Nat.le_of_ble_eq_true rfl, Nat.le_of_ble_eq_true rfl⟩) (zpreS hK hN trivial) rfl rfl hl.1 rfl (lv_room (Nat.le_of_ble_eq_true rfl)) dX3_sets_16 ⟨Nat.le_of_ble_eq_true rfl, Nat.le_of_ble_eq_true rfl⟩) (fun r_16 hr_16 => ?_)
    subst hr_16
    refine zti (show _ = zB (zIn v2 0 99) from zB_c (zIn_l v2 (by omega) (by omega))) ?_
    refine zi_eqB (tgt := 34) hx hb dX3_sets_19 (by decide) (fun c_19 => ?_) (fun c_19 => ?_)
    · refine lv_ldc hx hb hown (hts _ q1401) dX3_sets_34 ?_
      exact W.iret (v := -1000001) hx hb hr (fun t ht hW => ⟨_, rfl, (by unfold opSets; rw [zif_t c_4, zif_f c_19]), ht⟩) (fun _ h => absurd h List.not_mem_nil) dX3_sets_36
    · refine lv_iload_n hx hb dX3_sets_22 rfl (lv_at hl 2 rfl) ?_
      refine lv_i2l hx hb dX3_sets_23 rfl ?_
      refine lv_lconst (v := lN 0) hx hb dX3_sets_24 (by decide) ?_
      refine lv_ldc2 hx hb hown (hts _ q1400) dX3_sets_25 ?_
      refine ztl (show (2 : Int64) = lN 2 from rfl) ?_
      refine vp_callSi (W.runS (As := [.long w2.toInt64, .long (lN 0), .long (lN 2)]) (rest := []) ⟨hx, hb, hml, hown, hts⟩ (m_X3_in l g w2.toInt64 (lN 0) (lN 2)) (va_cwS 3 hts (lw_S q1397 q1398 q69 q1399) rfl rfl rfl hdS_X3_in ⟨Nat.le_of_ble_eq_true rfl, Nat.le_of_ble_eq_true rfl⟩) (zpreS hK hN trivial) rfl rfl hl.1 rfl (lv_room (Nat.le_of_ble_eq_true rfl)) dX3_sets_28 ⟨Nat.le_of_ble_eq_true rfl, Nat.le_of_ble_eq_true rfl⟩) (fun r_28 hr_28 => ?_)
      subst hr_28
      refine zti (show _ = zB (zIn w2 0 2) from zB_c (zIn_l w2 (by omega) (by omega))) ?_
      refine zi_neB (tgt := 37) hx hb dX3_sets_31 (by decide) (fun c_31 => ?_) (fun c_31 => ?_)
      · obtain ⟨v, rfl, hu_v, hv_v⟩ := zIn_ex c_19 (by omega)
        obtain ⟨w, rfl, hu_w, hv_w⟩ := zIn_ex c_31 (by omega)
        refine lv_aload_n hx hb dX3_sets_37 rfl (lv_at hl 0 rfl) ?_
        refine va_get (D := g.1) (ci := 3) (v := .ref (ad 4)) (C := RX3) (T := TX3) (N := 30) hx hb hts in_X3 hown hK hP 0 rfl rfl 4 (by decide) (hts _ q1301) (fun _ h9 => h9) rfl dX3_sets_38 ?_
        refine lv_iconst (v := nI 3) hx hb dX3_sets_41 (by decide) ?_
        refine zald hx hb hK hP 1 0 rfl rfl (j := 3) (by omega) (by decide) dX3_sets_42 ?_
        refine zti (show (nF B) 3 = nI (B 3) from rfl) ?_
        refine lv_istore_n (lv' := [(3, .int (nI (B 3))), (0, .ref (ad 0)), (1, .int (nI v)), (2, .int (nI w))]) hx hb dX3_sets_43 rfl hl (by decide) rfl (fun ls hl => ?_)
        refine lv_iconst (v := nI 0) hx hb dX3_sets_44 (by decide) ?_
        refine lv_istore (lv' := [(4, .int (nI 0)), (3, .int (nI (B 3))), (0, .ref (ad 0)), (1, .int (nI v)), (2, .int (nI w))]) hx hb dX3_sets_45 hl (by decide) rfl (fun ls hl => ?_)
        refine lv_iconst (v := nI 1) hx hb dX3_sets_47 (by decide) ?_
        refine lv_iload_n hx hb dX3_sets_48 rfl (lv_at hl 1 rfl) ?_
        refine lv_ishl hx hb dX3_sets_49 ?_
        refine zti (zshl1 (a := B 3) (by omega)) ?_
        refine lv_iconst (v := nI 1) hx hb dX3_sets_50 (by decide) ?_
        refine lv_isub hx hb dX3_sets_51 ?_
        refine zti (pk_sub (a := 2 ^ (B 3)) (b := 1) (by omega)) ?_
        refine lv_istore (lv' := [(5, .int (nI (2 ^ (B 3) - 1))), (4, .int (nI 0)), (3, .int (nI (B 3))), (0, .ref (ad 0)), (1, .int (nI v)), (2, .int (nI w))]) hx hb dX3_sets_52 hl (by decide) rfl (fun ls hl => ?_)
        refine lv_iconst (v := nI 0) hx hb dX3_sets_54 (by decide) ?_
        refine lv_istore (lv' := [(6, .int (nI 0)), (5, .int (nI (2 ^ (B 3) - 1))), (4, .int (nI 0)), (3, .int (nI (B 3))), (0, .ref (ad 0)), (1, .int (nI v)), (2, .int (nI w))]) hx hb dX3_sets_55 hl (by decide) rfl (fun ls hl => ?_)
        refine lv_iconst (v := nI 0) hx hb dX3_sets_57 (by decide) ?_
        refine lv_istore (lv' := [(7, .int (nI 0)), (6, .int (nI 0)), (5, .int (nI (2 ^ (B 3) - 1))), (4, .int (nI 0)), (3, .int (nI (B 3))), (0, .ref (ad 0)), (1, .int (nI v)), (2, .int (nI w))]) hx hb dX3_sets_58 hl (by decide) rfl (fun ls hl => ?_)
        refine zloop (head := 60) (nL := 10) (2 ^ B 3) (fun m => [(0, .ref (ad 0)), (1, .int (nI v)), (2, .int (nI w)), (3, .int (nI (B 3))), (4, .int (nI ((bsets B v m).1))), (5, .int (nI ((bsets B v m).2.1))), (6, .int (nI ((bsets B v m).2.2))), (7, .int (nI m))]) (fun m hv_m ih_60 ls hl => ?_) 0 (Nat.zero_le _) (lv_sub hl [5, 6, 7, 4, 3, 2, 1, 0] rfl)
        refine lv_iload hx hb dX3_sets_60 (lv_at hl 7 rfl) ?_
        refine lv_iconst (v := nI 1) hx hb dX3_sets_62 (by decide) ?_
        refine lv_iload_n hx hb dX3_sets_63 rfl (lv_at hl 3 rfl) ?_
        refine lv_ishl hx hb dX3_sets_64 ?_
        refine zti (zshl1 (a := B 3) (by omega)) ?_
        refine zc_ge (tgt := 151) hx hb (by omega) (by omega) dX3_sets_65 (by decide) (fun c_65 => ?_) (fun c_65 => ?_)
        · obtain rfl : 2 ^ B 3 = m := by omega
          have hle := bsets_le B v (2 ^ B 3)
          refine lv_iload_n hx hb dX3_sets_151 rfl (lv_at hl 2 rfl) ?_
          refine zi_ne (tgt := 160) hx hb (by omega) dX3_sets_152 (by decide) (fun c_152 => ?_) (fun c_152 => ?_)
          · refine lv_iload_n hx hb dX3_sets_160 rfl (lv_at hl 2 rfl) ?_
            refine lv_iconst (v := nI 2) hx hb dX3_sets_161 (by decide) ?_
            refine zc_ne (tgt := 170) hx hb (by omega) (by omega) dX3_sets_162 (by decide) (fun c_162 => ?_) (fun c_162 => ?_)
            · refine lv_iload hx hb dX3_sets_170 (lv_at hl 4 rfl) ?_
              refine zi_le (tgt := 180) hx hb (by omega) dX3_sets_172 (by decide) (fun c_172 => ?_) (fun c_172 => ?_)
              · refine lv_iconst (v := nI 0) hx hb dX3_sets_180 (by decide) ?_
                exact W.iret (v := nI 0) hx hb hr (fun t ht hW => ⟨_, rfl, (by unfold opSets; (try rw [zn_nI (n := v) (by omega)]); (try rw [zn_nI (n := w) (by omega)]); rw [zif_t c_4, zif_t c_19, zif_t c_31, zif_f c_152, zif_f c_162, zif_f c_172]), ht⟩) (fun _ h => absurd h List.not_mem_nil) dX3_sets_181
              · refine lv_iload hx hb dX3_sets_175 (lv_at hl 5 rfl) ?_
                refine lv_goto (tgt := 181) hx hb dX3_sets_177 (by decide) ?_
                exact W.iret (v := nI ((bsets B v (2 ^ B 3)).2.1)) hx hb hr (fun t ht hW => ⟨_, rfl, (by unfold opSets; (try rw [zn_nI (n := v) (by omega)]); (try rw [zn_nI (n := w) (by omega)]); rw [zif_t c_4, zif_t c_19, zif_t c_31, zif_f c_152, zif_f c_162, zif_t c_172]), ht⟩) (fun _ h => absurd h List.not_mem_nil) dX3_sets_181
            · refine lv_iload hx hb dX3_sets_165 (lv_at hl 6 rfl) ?_
              refine lv_goto (tgt := 181) hx hb dX3_sets_167 (by decide) ?_
              exact W.iret (v := nI ((bsets B v (2 ^ B 3)).2.2)) hx hb hr (fun t ht hW => ⟨_, rfl, (by unfold opSets; (try rw [zn_nI (n := v) (by omega)]); (try rw [zn_nI (n := w) (by omega)]); rw [zif_t c_4, zif_t c_19, zif_t c_31, zif_f c_152, zif_t c_162]), ht⟩) (fun _ h => absurd h List.not_mem_nil) dX3_sets_181
          · refine lv_iload hx hb dX3_sets_155 (lv_at hl 4 rfl) ?_
            refine lv_goto (tgt := 181) hx hb dX3_sets_157 (by decide) ?_
            exact W.iret (v := nI ((bsets B v (2 ^ B 3)).1)) hx hb hr (fun t ht hW => ⟨_, rfl, (by unfold opSets; (try rw [zn_nI (n := v) (by omega)]); (try rw [zn_nI (n := w) (by omega)]); rw [zif_t c_4, zif_t c_19, zif_t c_31, zif_t c_152]), ht⟩) (fun _ h => absurd h List.not_mem_nil) dX3_sets_181
        · refine lv_iconst (v := nI 0) hx hb dX3_sets_68 (by decide) ?_
          refine lv_istore (lv' := [(8, .int (nI 0)), (0, .ref (ad 0)), (1, .int (nI v)), (2, .int (nI w)), (3, .int (nI (B 3))), (4, .int (nI ((bsets B v m).1))), (5, .int (nI ((bsets B v m).2.1))), (6, .int (nI ((bsets B v m).2.2))), (7, .int (nI m))]) hx hb dX3_sets_69 hl (by decide) rfl (fun ls hl => ?_)
          refine lv_iconst (v := nI 0) hx hb dX3_sets_71 (by decide) ?_
          refine lv_istore (lv' := [(9, .int (nI 0)), (8, .int (nI 0)), (0, .ref (ad 0)), (1, .int (nI v)), (2, .int (nI w)), (3, .int (nI (B 3))), (4, .int (nI ((bsets B v m).1))), (5, .int (nI ((bsets B v m).2.1))), (6, .int (nI ((bsets B v m).2.2))), (7, .int (nI m))]) hx hb dX3_sets_72 hl (by decide) rfl (fun ls hl => ?_)
          refine zloop (head := 74) (nL := 10) (B 3) (fun k => [(0, .ref (ad 0)), (1, .int (nI v)), (2, .int (nI w)), (3, .int (nI (B 3))), (4, .int (nI ((bsets B v m).1))), (5, .int (nI ((bsets B v m).2.1))), (6, .int (nI ((bsets B v m).2.2))), (7, .int (nI m)), (8, .int (nI (bss B m k))), (9, .int (nI k))]) (fun k hv_k ih_74 ls hl => ?_) 0 (Nat.zero_le _) (lv_sub hl [2, 3, 4, 5, 6, 7, 8, 9, 1, 0] rfl)
          have hss := hB.ss (S := m) hv_k
          refine lv_iload hx hb dX3_sets_74 (lv_at hl 9 rfl) ?_
          refine lv_iload_n hx hb dX3_sets_76 rfl (lv_at hl 3 rfl) ?_
          refine zc_ge (tgt := 122) hx hb (by omega) (by omega) dX3_sets_77 (by decide) (fun c_77 => ?_) (fun c_77 => ?_)
          · obtain rfl : B 3 = k := by omega
            refine lv_iload hx hb dX3_sets_122 (lv_at hl 8 rfl) ?_
            refine lv_iload_n hx hb dX3_sets_124 rfl (lv_at hl 1 rfl) ?_
            refine zc_ne (tgt := 145) hx hb (by omega) (by omega) dX3_sets_125 (by decide) (fun c_125 => ?_) (fun c_125 => ?_)
            · refine lv_iinc (v := nI (m + 1)) (lv' := [(7, .int (nI (m + 1))), (0, .ref (ad 0)), (1, .int (nI v)), (2, .int (nI w)), (3, .int (nI (B 3))), (4, .int (nI ((bsets B v m).1))), (5, .int (nI ((bsets B v m).2.1))), (6, .int (nI ((bsets B v m).2.2))), (8, .int (nI (bss B m (B 3)))), (9, .int (nI (B 3)))]) hx hb dX3_sets_145 hl (k := 7) rfl (nI_add m 1) (by decide) rfl (fun ls hl => ?_)
              refine lv_goto (tgt := 60) hx hb dX3_sets_148 (by decide) ?_
              exact ih_60 (by omega) _ (by rw [show bsets B v (m + 1) = _ from zif_f c_125]; exact lv_sub hl [1, 2, 3, 4, 5, 6, 7, 0] rfl)
            · refine lv_iinc (v := nI ((bsets B v m).1 + 1)) (lv' := [(4, .int (nI ((bsets B v m).1 + 1))), (0, .ref (ad 0)), (1, .int (nI v)), (2, .int (nI w)), (3, .int (nI (B 3))), (5, .int (nI ((bsets B v m).2.1))), (6, .int (nI ((bsets B v m).2.2))), (7, .int (nI m)), (8, .int (nI (bss B m (B 3)))), (9, .int (nI (B 3)))]) hx hb dX3_sets_128 hl (k := 4) rfl (nI_add ((bsets B v m).1) 1) (by decide) rfl (fun ls hl => ?_)
              refine lv_iload hx hb dX3_sets_131 (lv_at hl 5 rfl) ?_
              refine lv_iload hx hb dX3_sets_133 (lv_at hl 7 rfl) ?_
              refine lv_iand hx hb dX3_sets_135 ?_
              refine zti (z_and ((bsets B v m).2.1) m) ?_
              refine lv_istore (lv' := [(5, .int (nI (((bsets B v m).2.1) &&& m))), (4, .int (nI ((bsets B v m).1 + 1))), (0, .ref (ad 0)), (1, .int (nI v)), (2, .int (nI w)), (3, .int (nI (B 3))), (6, .int (nI ((bsets B v m).2.2))), (7, .int (nI m)), (8, .int (nI (bss B m (B 3)))), (9, .int (nI (B 3)))]) hx hb dX3_sets_136 hl (by decide) rfl (fun ls hl => ?_)
              refine lv_iload hx hb dX3_sets_138 (lv_at hl 6 rfl) ?_
              refine lv_iload hx hb dX3_sets_140 (lv_at hl 7 rfl) ?_
              refine lv_ior hx hb dX3_sets_142 ?_
              refine zti (z_or ((bsets B v m).2.2) m) ?_
              refine lv_istore (lv' := [(6, .int (nI (((bsets B v m).2.2) ||| m))), (5, .int (nI (((bsets B v m).2.1) &&& m))), (4, .int (nI ((bsets B v m).1 + 1))), (0, .ref (ad 0)), (1, .int (nI v)), (2, .int (nI w)), (3, .int (nI (B 3))), (7, .int (nI m)), (8, .int (nI (bss B m (B 3)))), (9, .int (nI (B 3)))]) hx hb dX3_sets_143 hl (by decide) rfl (fun ls hl => ?_)
              refine lv_iinc (v := nI (m + 1)) (lv' := [(7, .int (nI (m + 1))), (6, .int (nI (((bsets B v m).2.2) ||| m))), (5, .int (nI (((bsets B v m).2.1) &&& m))), (4, .int (nI ((bsets B v m).1 + 1))), (0, .ref (ad 0)), (1, .int (nI v)), (2, .int (nI w)), (3, .int (nI (B 3))), (8, .int (nI (bss B m (B 3)))), (9, .int (nI (B 3)))]) hx hb dX3_sets_145 hl (k := 7) rfl (nI_add m 1) (by decide) rfl (fun ls hl => ?_)
              refine lv_goto (tgt := 60) hx hb dX3_sets_148 (by decide) ?_
              exact ih_60 (by omega) _ (by rw [show bsets B v (m + 1) = _ from zif_t c_125]; exact lv_sub hl [4, 5, 6, 7, 3, 2, 1, 0] rfl)
          · refine lv_iload hx hb dX3_sets_80 (lv_at hl 8 rfl) ?_
            have hr0 := hB.row (show k < B 3 by omega)
            have hrk := (hB.kd hr0).2
            refine zjoin (ls := ls) (α := Int32) (fun v9 => v9 = nI (zif (Nat.testBit m k = true) (bln B (B (4 + k)) 0) 0)) (fun v9 => .int v9 :: [.int (nI (bss B m k))]) 113 (fun v9 hv => ?_) (fun jn_82 => ?_)
            · subst hv
              refine lv_iadd hx hb dX3_sets_113 ?_
              refine zti (nI_add (bss B m k) (zif (Nat.testBit m k = true) (bln B (B (4 + k)) 0) 0)) ?_
              refine lv_istore (lv' := [(8, .int (nI (bss B m k + (zif (Nat.testBit m k = true) (bln B (B (4 + k)) 0) 0)))), (0, .ref (ad 0)), (1, .int (nI v)), (2, .int (nI w)), (3, .int (nI (B 3))), (4, .int (nI ((bsets B v m).1))), (5, .int (nI ((bsets B v m).2.1))), (6, .int (nI ((bsets B v m).2.2))), (7, .int (nI m)), (9, .int (nI k))]) hx hb dX3_sets_114 hl (by decide) rfl (fun ls hl => ?_)
              refine lv_iinc (v := nI (k + 1)) (lv' := [(9, .int (nI (k + 1))), (8, .int (nI (bss B m k + (zif (Nat.testBit m k = true) (bln B (B (4 + k)) 0) 0)))), (0, .ref (ad 0)), (1, .int (nI v)), (2, .int (nI w)), (3, .int (nI (B 3))), (4, .int (nI ((bsets B v m).1))), (5, .int (nI ((bsets B v m).2.1))), (6, .int (nI ((bsets B v m).2.2))), (7, .int (nI m))]) hx hb dX3_sets_116 hl (k := 9) rfl (nI_add k 1) (by decide) rfl (fun ls hl => ?_)
              refine lv_goto (tgt := 74) hx hb dX3_sets_119 (by decide) ?_
              exact ih_74 (by omega) _ (lv_sub hl [2, 3, 4, 5, 6, 7, 8, 9, 1, 0] rfl)
            · refine lv_iload hx hb dX3_sets_82 (lv_at hl 7 rfl) ?_
              refine lv_iload hx hb dX3_sets_84 (lv_at hl 9 rfl) ?_
              refine vp_callSi (W.runS (As := [.int (nI m), .int (nI k)]) (rest := [.int (nI (bss B m k))]) ⟨hx, hb, hml, hown, hts⟩ (m_X3_has l g (nI m) (nI k)) (va_cwS 2 hts (lw_S q1617 q1618 q69 q1619) rfl rfl rfl hdS_X3_has ⟨Nat.le_of_ble_eq_true rfl, Nat.le_of_ble_eq_true rfl⟩) (zpreS hK hN trivial) rfl rfl hl.1 rfl (lv_room (Nat.le_of_ble_eq_true rfl)) dX3_sets_86 ⟨Nat.le_of_ble_eq_true rfl, Nat.le_of_ble_eq_true rfl⟩) (fun r_86 hr_86 => ?_)
              subst hr_86
              refine zti (zB_c (zhas_nI (n := m) (k := k) (by omega) (by omega))) ?_
              refine zi_eqB (tgt := 112) hx hb dX3_sets_89 (by decide) (fun c_89 => ?_) (fun c_89 => ?_)
              · refine lv_iconst (v := nI 0) hx hb dX3_sets_112 (by decide) ?_
                exact jn_82 _ ((congrArg nI (zif_f c_89)).symm)
              · refine lv_aload_n hx hb dX3_sets_92 rfl (lv_at hl 0 rfl) ?_
                refine va_get (D := g.1) (ci := 3) (v := .ref (ad 4)) (C := RX3) (T := TX3) (N := 30) hx hb hts in_X3 hown hK hP 0 rfl rfl 4 (by decide) (hts _ q1301) (fun _ h9 => h9) rfl dX3_sets_93 ?_
                refine lv_aload_n hx hb dX3_sets_96 rfl (lv_at hl 0 rfl) ?_
                refine va_get (D := g.1) (ci := 3) (v := .ref (ad 4)) (C := RX3) (T := TX3) (N := 30) hx hb hts in_X3 hown hK hP 0 rfl rfl 4 (by decide) (hts _ q1301) (fun _ h9 => h9) rfl dX3_sets_97 ?_
                refine lv_iconst (v := nI 4) hx hb dX3_sets_100 (by decide) ?_
                refine lv_iload hx hb dX3_sets_101 (lv_at hl 9 rfl) ?_
                refine lv_iadd hx hb dX3_sets_103 ?_
                refine zti (nI_add 4 k) ?_
                refine zald hx hb hK hP 1 0 rfl rfl (j := 4 + k) (by omega) (by decide) dX3_sets_104 ?_
                refine zti (show (nF B) (4 + k) = nI (B (4 + k)) from rfl) ?_
                refine lv_iconst (v := nI 0) hx hb dX3_sets_105 (by decide) ?_
                refine vp_callSi (W.runS (As := [.ref (ad 4), .int (nI (B (4 + k))), .int (nI 0)]) (rest := [.int (nI (bss B m k))]) ⟨hx, hb, hml, hown, hts⟩ (m_X3_lengthOf l g (ad 4) B (B (4 + k)) 0 (by omega) (by omega) (by first | assumption | omega | exact (hB.kd (by omega)).2)) (va_cwS 3 hts (lw_S q1574 q1575 q69 q1576) rfl rfl rfl hdS_X3_lengthOf ⟨Nat.le_of_ble_eq_true rfl, Nat.le_of_ble_eq_true rfl⟩) (zpreS hK hN (hP.sub [1] rfl)) rfl rfl hl.1 rfl (lv_room (Nat.le_of_ble_eq_true rfl)) dX3_sets_106 ⟨Nat.le_of_ble_eq_true rfl, Nat.le_of_ble_eq_true rfl⟩) (fun r_106 hr_106 => ?_)
                subst hr_106
                refine lv_goto (tgt := 113) hx hb dX3_sets_109 (by decide) ?_
                exact jn_82 _ ((congrArg nI (zif_t c_89)).symm)
      · refine lv_ldc hx hb hown (hts _ q1401) dX3_sets_34 ?_
        exact W.iret (v := -1000001) hx hb hr (fun t ht hW => ⟨_, rfl, (by unfold opSets; rw [zif_t c_4, zif_t c_19, zif_f c_31]), ht⟩) (fun _ h => absurd h List.not_mem_nil) dX3_sets_36
  · refine lv_ldc hx hb hown (hts _ q1475) dX3_sets_7 ?_
    exact W.iret (v := -1000002) hx hb hr (fun t ht hW => ⟨_, rfl, (by unfold opSets; rw [zif_f c_4]), ht⟩) (fun _ h => absurd h List.not_mem_nil) dX3_sets_9

set_option maxHeartbeats 4000000 in
set_option maxRecDepth 100000 in
theorem m_X3_lost (l : Launch) (g : zG) (ad : Nat → Nat) (fi : Nat → Int32) (B : Nat → Nat) (hB : bOK B) (s2 v2 p3 w2 : Int32) : Met l yX3_lost (ws_ yX3_lost cX3_lost 14 (some .long)) ({ frames := 3, cells := 0, slots := 0, locals := 69 }) (zPc g [.ref (ad 0), .int s2, .int v2, .int p3, .int w2] (fun H => va_P g.1 zCL [(ad 0, .inr (3, mO ad fi)), (ad 4, .inl (g.2 0, 44, .inl (nF B)))] H)) (vp_Sl (fun z : Int64 => z = opLost B s2 v2 p3 w2)) 0 0 (fun _ => False) := by
  refine Met.ofW (cc := cX3_lost) (maxL := 14) (ret := (some .long)) (by decide) rfl ?_
  intro p e s m args below meth c s₁ B0 hml hv
  obtain ⟨rfl, ⟨hK, hN⟩, hP⟩ := hv
  have hx := B0.exec
  have hb := B0.bytes
  have hr := B0.returns
  have hts := atoms_spec (ws := ws_ yX3_lost cX3_lost 14 (some .long)) B0.pre
  have hts : ∀ w ∈ lw_all, w.before _ s = true := fun w h => hts w (List.mem_cons_of_mem _ h)
  have hown : s.vm.findClass RX3 = some m.cls := findClass_of_methodNamed B0.named
  have hlocks := B0.notSynchronized
  have hl := lv_entry ([.ref (ad 0), .int s2, .int v2, .int p3, .int w2]) (n := 14) (Nat.le_of_ble_eq_true rfl)
  rw [lg_entry_eq]
  generalize (lg_sl ([.ref (ad 0), .int s2, .int v2, .int p3, .int w2]) ++ List.replicate (14 - (lg_sl ([.ref (ad 0), .int s2, .int v2, .int p3, .int w2])).length) Slot.unset).toArray = ls at hl ⊢
  have hl : lv_has ls 14 [(0, .ref (ad 0)), (1, .int s2), (2, .int v2), (3, .int p3), (4, .int w2)] := hl
  have h0 : B 0 ≤ 4 := hB.n4
  have h3 : B 3 ≤ 8 := hB.r8
  have hpw := hB.pw
  have hten := hB.ten
  refine lv_aload_n hx hb dX3_lost_0 rfl (lv_at hl 0 rfl) ?_
  refine lv_iload_n hx hb dX3_lost_1 rfl (lv_at hl 1 rfl) ?_
  refine vp_callSi (W.runV (As := [.int s2]) (rest := []) ⟨hx, hb, hml, hown, hts⟩ (m_X3_isSort l g ad fi B hB s2) (cwV 1 hts (lw_V q1480 q1482 qs39 q69 q1483) rfl rfl rfl hdV_X3_isSort ⟨Nat.le_of_ble_eq_true rfl, Nat.le_of_ble_eq_true rfl⟩) (zpreV hK hN (va_recv hK hP (ci := 3) (q0 := 0) rfl rfl) hP) rfl rfl hl.1 rfl (lv_room (Nat.le_of_ble_eq_true rfl)) dX3_lost_2 ⟨Nat.le_of_ble_eq_true rfl, Nat.le_of_ble_eq_true rfl⟩) (fun r_2 hr_2 => ?_)
  subst hr_2
  refine zi_eqB (tgt := 43) hx hb dX3_lost_5 (by decide) (fun c_5 => ?_) (fun c_5 => ?_)
  · refine lv_ldc2 hx hb hown (hts _ q1571) dX3_lost_43 ?_
    exact W.lret (v := -1000001) hx hb hr (fun t ht hW => ⟨_, rfl, (by unfold opLost; rw [zif_f c_5]), ht⟩) (fun _ h => absurd h List.not_mem_nil) dX3_lost_46
  · refine lv_iload_n hx hb dX3_lost_8 rfl (lv_at hl 2 rfl) ?_
    refine lv_i2l hx hb dX3_lost_9 rfl ?_
    refine lv_lconst (v := lN 0) hx hb dX3_lost_10 (by decide) ?_
    refine lv_ldc2 hx hb hown (hts _ q1627) dX3_lost_11 ?_
    refine ztl (show (40 : Int64) = lN 40 from rfl) ?_
    refine vp_callSi (W.runS (As := [.long v2.toInt64, .long (lN 0), .long (lN 40)]) (rest := []) ⟨hx, hb, hml, hown, hts⟩ (m_X3_in l g v2.toInt64 (lN 0) (lN 40)) (va_cwS 3 hts (lw_S q1397 q1398 q69 q1399) rfl rfl rfl hdS_X3_in ⟨Nat.le_of_ble_eq_true rfl, Nat.le_of_ble_eq_true rfl⟩) (zpreS hK hN trivial) rfl rfl hl.1 rfl (lv_room (Nat.le_of_ble_eq_true rfl)) dX3_lost_14 ⟨Nat.le_of_ble_eq_true rfl, Nat.le_of_ble_eq_true rfl⟩) (fun r_14 hr_14 => ?_)
    subst hr_14
    refine zti (show _ = zB (zIn v2 0 40) from zB_c (zIn_l v2 (by omega) (by omega))) ?_
    refine zi_eqB (tgt := 43) hx hb dX3_lost_17 (by decide) (fun c_17 => ?_) (fun c_17 => ?_)
    · refine lv_ldc2 hx hb hown (hts _ q1571) dX3_lost_43 ?_
      exact W.lret (v := -1000001) hx hb hr (fun t ht hW => ⟨_, rfl, (by unfold opLost; rw [zif_t c_5, zif_f c_17]), ht⟩) (fun _ h => absurd h List.not_mem_nil) dX3_lost_46
    · refine lv_iload_n hx hb dX3_lost_20 rfl (lv_at hl 3 rfl) ?_
      refine lv_i2l hx hb dX3_lost_21 rfl ?_
      refine lv_lconst (v := lN 0) hx hb dX3_lost_22 (by decide) ?_
      refine lv_ldc2 hx hb hown (hts _ q1549) dX3_lost_23 ?_
      refine ztl (show (10 : Int64) = lN 10 from rfl) ?_
      refine vp_callSi (W.runS (As := [.long p3.toInt64, .long (lN 0), .long (lN 10)]) (rest := []) ⟨hx, hb, hml, hown, hts⟩ (m_X3_in l g p3.toInt64 (lN 0) (lN 10)) (va_cwS 3 hts (lw_S q1397 q1398 q69 q1399) rfl rfl rfl hdS_X3_in ⟨Nat.le_of_ble_eq_true rfl, Nat.le_of_ble_eq_true rfl⟩) (zpreS hK hN trivial) rfl rfl hl.1 rfl (lv_room (Nat.le_of_ble_eq_true rfl)) dX3_lost_26 ⟨Nat.le_of_ble_eq_true rfl, Nat.le_of_ble_eq_true rfl⟩) (fun r_26 hr_26 => ?_)
      subst hr_26
      refine zti (show _ = zB (zIn p3 0 10) from zB_c (zIn_l p3 (by omega) (by omega))) ?_
      refine zi_eqB (tgt := 43) hx hb dX3_lost_29 (by decide) (fun c_29 => ?_) (fun c_29 => ?_)
      · refine lv_ldc2 hx hb hown (hts _ q1571) dX3_lost_43 ?_
        exact W.lret (v := -1000001) hx hb hr (fun t ht hW => ⟨_, rfl, (by unfold opLost; rw [zif_t c_5, zif_t c_17, zif_f c_29]), ht⟩) (fun _ h => absurd h List.not_mem_nil) dX3_lost_46
      · refine lv_iload hx hb dX3_lost_32 (lv_at hl 4 rfl) ?_
        refine lv_i2l hx hb dX3_lost_34 rfl ?_
        refine lv_lconst (v := lN 0) hx hb dX3_lost_35 (by decide) ?_
        refine lv_lconst (v := lN 1) hx hb dX3_lost_36 (by decide) ?_
        refine vp_callSi (W.runS (As := [.long w2.toInt64, .long (lN 0), .long (lN 1)]) (rest := []) ⟨hx, hb, hml, hown, hts⟩ (m_X3_in l g w2.toInt64 (lN 0) (lN 1)) (va_cwS 3 hts (lw_S q1397 q1398 q69 q1399) rfl rfl rfl hdS_X3_in ⟨Nat.le_of_ble_eq_true rfl, Nat.le_of_ble_eq_true rfl⟩) (zpreS hK hN trivial) rfl rfl hl.1 rfl (lv_room (Nat.le_of_ble_eq_true rfl)) dX3_lost_37 ⟨Nat.le_of_ble_eq_true rfl, Nat.le_of_ble_eq_true rfl⟩) (fun r_37 hr_37 => ?_)
        subst hr_37
        refine zti (show _ = zB (zIn w2 0 1) from zB_c (zIn_l w2 (by omega) (by omega))) ?_
        refine zi_neB (tgt := 47) hx hb dX3_lost_40 (by decide) (fun c_40 => ?_) (fun c_40 => ?_)
        · obtain ⟨x, rfl, hu_x, hv_x⟩ := zIn_ex c_5 (by omega)
          obtain ⟨v, rfl, hu_v, hv_v⟩ := zIn_ex c_17 (by omega)
          obtain ⟨p2, rfl, hu_p2, hv_p2⟩ := zIn_ex c_29 (by omega)
          obtain ⟨w, rfl, hu_w, hv_w⟩ := zIn_ex c_40 (by omega)
          have hx0 : x < B 0 := by omega
          refine lv_lconst (v := lN 0) hx hb dX3_lost_47 (by decide) ?_
          refine lv_lstore (lv' := [(5, .long (lN 0)), (0, .ref (ad 0)), (1, .int (nI x)), (2, .int (nI v)), (3, .int (nI p2)), (4, .int (nI w))]) hx hb dX3_lost_48 hl (by decide) rfl (fun ls hl => ?_)
          refine lv_lconst (v := lN 0) hx hb dX3_lost_50 (by decide) ?_
          refine lv_lstore (lv' := [(7, .long (lN 0)), (5, .long (lN 0)), (0, .ref (ad 0)), (1, .int (nI x)), (2, .int (nI v)), (3, .int (nI p2)), (4, .int (nI w))]) hx hb dX3_lost_51 hl (by decide) rfl (fun ls hl => ?_)
          refine lv_iconst (v := nI 0) hx hb dX3_lost_53 (by decide) ?_
          refine lv_istore (lv' := [(9, .int (nI 0)), (7, .long (lN 0)), (5, .long (lN 0)), (0, .ref (ad 0)), (1, .int (nI x)), (2, .int (nI v)), (3, .int (nI p2)), (4, .int (nI w))]) hx hb dX3_lost_54 hl (by decide) rfl (fun ls hl => ?_)
          refine zloop (head := 56) (nL := 14) (2 ^ B 3) (fun m => [(0, .ref (ad 0)), (1, .int (nI x)), (2, .int (nI v)), (3, .int (nI p2)), (4, .int (nI w)), (5, .long (lN (babv B x v p2 m))), (7, .long (lN (bbel p2 (B 3) m))), (9, .int (nI m))]) (fun m hv_m ih_56 ls hl => ?_) 0 (Nat.zero_le _) (lv_sub hl [3, 4, 5, 6, 7, 2, 1, 0] rfl)
          refine lv_iload hx hb dX3_lost_56 (lv_at hl 7 rfl) ?_
          refine lv_iconst (v := nI 1) hx hb dX3_lost_58 (by decide) ?_
          refine lv_aload_n hx hb dX3_lost_59 rfl (lv_at hl 0 rfl) ?_
          refine va_get (D := g.1) (ci := 3) (v := .ref (ad 4)) (C := RX3) (T := TX3) (N := 30) hx hb hts in_X3 hown hK hP 0 rfl rfl 4 (by decide) (hts _ q1301) (fun _ h9 => h9) rfl dX3_lost_60 ?_
          refine lv_iconst (v := nI 3) hx hb dX3_lost_63 (by decide) ?_
          refine zald hx hb hK hP 1 0 rfl rfl (j := 3) (by omega) (by decide) dX3_lost_64 ?_
          refine zti (show (nF B) 3 = nI (B 3) from rfl) ?_
          refine lv_ishl hx hb dX3_lost_65 ?_
          refine zti (zshl1 (a := B 3) (by omega)) ?_
          refine zc_ge (tgt := 183) hx hb (by omega) (by omega) dX3_lost_66 (by decide) (fun c_66 => ?_) (fun c_66 => ?_)
          · obtain rfl : 2 ^ B 3 = m := by omega
            have hab := babv_le B x v p2 (2 ^ B 3)
            have hbe := bbel_10 (show p2 ≤ 10 by omega) (B 3)
            refine lv_lload hx hb dX3_lost_183 (lv_at hl 5 rfl) ?_
            refine lv_lload hx hb dX3_lost_185 (lv_at hl 6 rfl) ?_
            refine lv_iload hx hb dX3_lost_187 (lv_at hl 4 rfl) ?_
            refine vp_callSl (W.runS (As := [.long (lN (babv B x v p2 (2 ^ B 3))), .long (lN (bbel p2 (B 3) (2 ^ B 3))), .int (nI w)]) (rest := []) ⟨hx, hb, hml, hown, hts⟩ (m_X3_lowest l g (babv B x v p2 (2 ^ B 3)) (bbel p2 (B 3) (2 ^ B 3)) w (by omega) (by omega) (by omega) (by omega)) (va_cwS 3 hts (lw_S q1595 q1596 q69 q1597) rfl rfl rfl hdS_X3_lowest ⟨Nat.le_of_ble_eq_true rfl, Nat.le_of_ble_eq_true rfl⟩) (zpreS hK hN trivial) rfl rfl hl.1 rfl (lv_room (Nat.le_of_ble_eq_true rfl)) dX3_lost_189 ⟨Nat.le_of_ble_eq_true rfl, Nat.le_of_ble_eq_true rfl⟩) (fun r_189 hr_189 => ?_)
            subst hr_189
            exact W.lret (v := lN (zif (w = 0) (babv B x v p2 (2 ^ B 3)) (bbel p2 (B 3) (2 ^ B 3)) / Nat.gcd (babv B x v p2 (2 ^ B 3)) (bbel p2 (B 3) (2 ^ B 3)))) hx hb hr (fun t ht hW => ⟨_, rfl, (by unfold opLost; rw [zn_nI (n := x) (by omega)]; rw [zn_nI (n := v) (by omega)]; rw [zn_nI (n := p2) (by omega)]; rw [zn_nI (n := w) (by omega)]; rw [zif_t c_5, zif_t c_17, zif_t c_29, zif_t c_40, ← hbe]), ht⟩) (fun _ h => absurd h List.not_mem_nil) dX3_lost_192
          · refine lv_lconst (v := lN 1) hx hb dX3_lost_69 (by decide) ?_
            refine lv_lstore (lv' := [(10, .long (lN 1)), (0, .ref (ad 0)), (1, .int (nI x)), (2, .int (nI v)), (3, .int (nI p2)), (4, .int (nI w)), (5, .long (lN (babv B x v p2 m))), (7, .long (lN (bbel p2 (B 3) m))), (9, .int (nI m))]) hx hb dX3_lost_70 hl (by decide) rfl (fun ls hl => ?_)
            refine lv_iconst (v := nI 0) hx hb dX3_lost_72 (by decide) ?_
            refine lv_istore (lv' := [(12, .int (nI 0)), (10, .long (lN 1)), (0, .ref (ad 0)), (1, .int (nI x)), (2, .int (nI v)), (3, .int (nI p2)), (4, .int (nI w)), (5, .long (lN (babv B x v p2 m))), (7, .long (lN (bbel p2 (B 3) m))), (9, .int (nI m))]) hx hb dX3_lost_73 hl (by decide) rfl (fun ls hl => ?_)
            refine lv_iconst (v := nI 0) hx hb dX3_lost_75 (by decide) ?_
            refine lv_istore (lv' := [(13, .int (nI 0)), (12, .int (nI 0)), (10, .long (lN 1)), (0, .ref (ad 0)), (1, .int (nI x)), (2, .int (nI v)), (3, .int (nI p2)), (4, .int (nI w)), (5, .long (lN (babv B x v p2 m))), (7, .long (lN (bbel p2 (B 3) m))), (9, .int (nI m))]) hx hb dX3_lost_76 hl (by decide) rfl (fun ls hl => ?_)
            refine zloop (head := 78) (nL := 14) (B 3) (fun k => [(0, .ref (ad 0)), (1, .int (nI x)), (2, .int (nI v)), (3, .int (nI p2)), (4, .int (nI w)), (5, .long (lN (babv B x v p2 m))), (7, .long (lN (bbel p2 (B 3) m))), (9, .int (nI m)), (10, .long (lN (bodds p2 m k))), (12, .int (nI (bofs B x m k))), (13, .int (nI k))]) (fun k hv_k ih_78 ls hl => ?_) 0 (Nat.zero_le _) (lv_sub hl [3, 4, 5, 6, 7, 8, 9, 10, 2, 1, 0] rfl)
            have hof := hB.ofs (x := x) (S := m) hv_k
            refine lv_iload hx hb dX3_lost_78 (lv_at hl 10 rfl) ?_
            refine lv_aload_n hx hb dX3_lost_80 rfl (lv_at hl 0 rfl) ?_
            refine va_get (D := g.1) (ci := 3) (v := .ref (ad 4)) (C := RX3) (T := TX3) (N := 30) hx hb hts in_X3 hown hK hP 0 rfl rfl 4 (by decide) (hts _ q1301) (fun _ h9 => h9) rfl dX3_lost_81 ?_
            refine lv_iconst (v := nI 3) hx hb dX3_lost_84 (by decide) ?_
            refine zald hx hb hK hP 1 0 rfl rfl (j := 3) (by omega) (by decide) dX3_lost_85 ?_
            refine zti (show (nF B) 3 = nI (B 3) from rfl) ?_
            refine zc_ge (tgt := 153) hx hb (by omega) (by omega) dX3_lost_86 (by decide) (fun c_86 => ?_) (fun c_86 => ?_)
            · obtain rfl : B 3 = k := by omega
              refine lv_lload hx hb dX3_lost_153 (lv_at hl 6 rfl) ?_
              refine lv_lload hx hb dX3_lost_155 (lv_at hl 8 rfl) ?_
              refine lv_ladd hx hb dX3_lost_157 ?_
              refine ztl (lN_add (bbel p2 (B 3) m) (bodds p2 m (B 3))) ?_
              refine lv_lstore (lv' := [(7, .long (lN (bbel p2 (B 3) m + bodds p2 m (B 3)))), (0, .ref (ad 0)), (1, .int (nI x)), (2, .int (nI v)), (3, .int (nI p2)), (4, .int (nI w)), (5, .long (lN (babv B x v p2 m))), (9, .int (nI m)), (10, .long (lN (bodds p2 m (B 3)))), (12, .int (nI (bofs B x m (B 3)))), (13, .int (nI (B 3)))]) hx hb dX3_lost_158 hl (by decide) rfl (fun ls hl => ?_)
              refine lv_lload hx hb dX3_lost_160 (lv_at hl 6 rfl) ?_
              refine zjoin (ls := ls) (α := Int64) (fun v9 => v9 = lN (zif (v < bofs B x m (B 3)) 0 (bodds p2 m (B 3)))) (fun v9 => .long v9 :: [.long (lN (babv B x v p2 m))]) 174 (fun v9 hv => ?_) (fun jn_162 => ?_)
              · subst hv
                refine lv_ladd hx hb dX3_lost_174 ?_
                refine ztl (lN_add (babv B x v p2 m) (zif (v < bofs B x m (B 3)) 0 (bodds p2 m (B 3)))) ?_
                refine lv_lstore (lv' := [(5, .long (lN (babv B x v p2 m + (zif (v < bofs B x m (B 3)) 0 (bodds p2 m (B 3)))))), (7, .long (lN (bbel p2 (B 3) m + bodds p2 m (B 3)))), (0, .ref (ad 0)), (1, .int (nI x)), (2, .int (nI v)), (3, .int (nI p2)), (4, .int (nI w)), (9, .int (nI m)), (10, .long (lN (bodds p2 m (B 3)))), (12, .int (nI (bofs B x m (B 3)))), (13, .int (nI (B 3)))]) hx hb dX3_lost_175 hl (by decide) rfl (fun ls hl => ?_)
                refine lv_iinc (v := nI (m + 1)) (lv' := [(9, .int (nI (m + 1))), (5, .long (lN (babv B x v p2 m + (zif (v < bofs B x m (B 3)) 0 (bodds p2 m (B 3)))))), (7, .long (lN (bbel p2 (B 3) m + bodds p2 m (B 3)))), (0, .ref (ad 0)), (1, .int (nI x)), (2, .int (nI v)), (3, .int (nI p2)), (4, .int (nI w)), (10, .long (lN (bodds p2 m (B 3)))), (12, .int (nI (bofs B x m (B 3)))), (13, .int (nI (B 3)))]) hx hb dX3_lost_177 hl (k := 7) rfl (nI_add m 1) (by decide) rfl (fun ls hl => ?_)
                refine lv_goto (tgt := 56) hx hb dX3_lost_180 (by decide) ?_
                exact ih_56 (by omega) _ (lv_sub hl [3, 4, 5, 6, 7, 1, 2, 0] rfl)
              · refine lv_iload hx hb dX3_lost_162 (lv_at hl 9 rfl) ?_
                refine lv_iload_n hx hb dX3_lost_164 rfl (lv_at hl 3 rfl) ?_
                refine zc_gt (tgt := 173) hx hb (by omega) (by omega) dX3_lost_165 (by decide) (fun c_165 => ?_) (fun c_165 => ?_)
                · refine lv_lconst (v := lN 0) hx hb dX3_lost_173 (by decide) ?_
                  exact jn_162 _ ((congrArg lN (zif_t c_165)).symm)
                · refine lv_lload hx hb dX3_lost_168 (lv_at hl 8 rfl) ?_
                  refine lv_goto (tgt := 174) hx hb dX3_lost_170 (by decide) ?_
                  exact jn_162 _ ((congrArg lN (zif_f c_165)).symm)
            · refine lv_lload hx hb dX3_lost_89 (lv_at hl 8 rfl) ?_
              have hr0 := hB.row (show k < B 3 by omega)
              refine zjoin (ls := ls) (α := Int64) (fun v9 => v9 = lN (zif (Nat.testBit m k = true) (10 - p2) p2)) (fun v9 => .long v9 :: [.long (lN (bodds p2 m k))]) 111 (fun v9 hv => ?_) (fun jn_91 => ?_)
              · subst hv
                refine lv_lmul hx hb dX3_lost_111 ?_
                refine ztl (lN_mul (bodds p2 m k) (zif (Nat.testBit m k = true) (10 - p2) p2)) ?_
                refine lv_lstore (lv' := [(10, .long (lN ((bodds p2 m k) * (zif (Nat.testBit m k = true) (10 - p2) p2)))), (0, .ref (ad 0)), (1, .int (nI x)), (2, .int (nI v)), (3, .int (nI p2)), (4, .int (nI w)), (5, .long (lN (babv B x v p2 m))), (7, .long (lN (bbel p2 (B 3) m))), (9, .int (nI m)), (12, .int (nI (bofs B x m k))), (13, .int (nI k))]) hx hb dX3_lost_112 hl (by decide) rfl (fun ls hl => ?_)
                refine lv_iload hx hb dX3_lost_114 (lv_at hl 9 rfl) ?_
                refine zjoin (ls := ls) (α := Int32) (fun v9 => v9 = nI (zif (Nat.testBit m k = true) (boft B x (B (4 + k))) 0)) (fun v9 => .int v9 :: [.int (nI (bofs B x m k))]) 144 (fun v9 hv => ?_) (fun jn_116 => ?_)
                · subst hv
                  refine lv_iadd hx hb dX3_lost_144 ?_
                  refine zti (nI_add (bofs B x m k) (zif (Nat.testBit m k = true) (boft B x (B (4 + k))) 0)) ?_
                  refine lv_istore (lv' := [(12, .int (nI (bofs B x m k + (zif (Nat.testBit m k = true) (boft B x (B (4 + k))) 0)))), (10, .long (lN ((bodds p2 m k) * (zif (Nat.testBit m k = true) (10 - p2) p2)))), (0, .ref (ad 0)), (1, .int (nI x)), (2, .int (nI v)), (3, .int (nI p2)), (4, .int (nI w)), (5, .long (lN (babv B x v p2 m))), (7, .long (lN (bbel p2 (B 3) m))), (9, .int (nI m)), (13, .int (nI k))]) hx hb dX3_lost_145 hl (by decide) rfl (fun ls hl => ?_)
                  refine lv_iinc (v := nI (k + 1)) (lv' := [(13, .int (nI (k + 1))), (12, .int (nI (bofs B x m k + (zif (Nat.testBit m k = true) (boft B x (B (4 + k))) 0)))), (10, .long (lN ((bodds p2 m k) * (zif (Nat.testBit m k = true) (10 - p2) p2)))), (0, .ref (ad 0)), (1, .int (nI x)), (2, .int (nI v)), (3, .int (nI p2)), (4, .int (nI w)), (5, .long (lN (babv B x v p2 m))), (7, .long (lN (bbel p2 (B 3) m))), (9, .int (nI m))]) hx hb dX3_lost_147 hl (k := 10) rfl (nI_add k 1) (by decide) rfl (fun ls hl => ?_)
                  refine lv_goto (tgt := 78) hx hb dX3_lost_150 (by decide) ?_
                  exact ih_78 (by omega) _ (lv_sub hl [3, 4, 5, 6, 7, 8, 9, 10, 2, 1, 0] rfl)
                · refine lv_iload hx hb dX3_lost_116 (lv_at hl 8 rfl) ?_
                  refine lv_iload hx hb dX3_lost_118 (lv_at hl 10 rfl) ?_
                  refine vp_callSi (W.runS (As := [.int (nI m), .int (nI k)]) (rest := [.int (nI (bofs B x m k))]) ⟨hx, hb, hml, hown, hts⟩ (m_X3_has l g (nI m) (nI k)) (va_cwS 2 hts (lw_S q1617 q1618 q69 q1619) rfl rfl rfl hdS_X3_has ⟨Nat.le_of_ble_eq_true rfl, Nat.le_of_ble_eq_true rfl⟩) (zpreS hK hN trivial) rfl rfl hl.1 rfl (lv_room (Nat.le_of_ble_eq_true rfl)) dX3_lost_120 ⟨Nat.le_of_ble_eq_true rfl, Nat.le_of_ble_eq_true rfl⟩) (fun r_120 hr_120 => ?_)
                  subst hr_120
                  refine zti (zB_c (zhas_nI (n := m) (k := k) (by omega) (by omega))) ?_
                  refine zi_eqB (tgt := 143) hx hb dX3_lost_123 (by decide) (fun c_123 => ?_) (fun c_123 => ?_)
                  · refine lv_iconst (v := nI 0) hx hb dX3_lost_143 (by decide) ?_
                    exact jn_116 _ ((congrArg nI (zif_f c_123)).symm)
                  · refine lv_aload_n hx hb dX3_lost_126 rfl (lv_at hl 1 rfl) ?_
                    refine lv_iload_n hx hb dX3_lost_127 rfl (lv_at hl 2 rfl) ?_
                    refine lv_aload_n hx hb dX3_lost_128 rfl (lv_at hl 1 rfl) ?_
                    refine va_get (D := g.1) (ci := 3) (v := .ref (ad 4)) (C := RX3) (T := TX3) (N := 30) hx hb hts in_X3 hown hK hP 0 rfl rfl 4 (by decide) (hts _ q1301) (fun _ h9 => h9) rfl dX3_lost_129 ?_
                    refine lv_iconst (v := nI 4) hx hb dX3_lost_132 (by decide) ?_
                    refine lv_iload hx hb dX3_lost_133 (lv_at hl 10 rfl) ?_
                    refine lv_iadd hx hb dX3_lost_135 ?_
                    refine zti (nI_add 4 k) ?_
                    refine zald hx hb hK hP 1 0 rfl rfl (j := 4 + k) (by omega) (by decide) dX3_lost_136 ?_
                    refine zti (show (nF B) (4 + k) = nI (B (4 + k)) from rfl) ?_
                    refine vp_callSi (W.runV (As := [.int (nI x), .int (nI (B (4 + k)))]) (rest := [.int (nI (bofs B x m k))]) ⟨hx, hb, hml, hown, hts⟩ (m_X3_oftenIn l g ad fi B hB x (B (4 + k)) (by omega) (by first | assumption | omega)) (cwV 2 hts (lw_V q1666 q1668 qs55 q69 q1669) rfl rfl rfl hdV_X3_oftenIn ⟨Nat.le_of_ble_eq_true rfl, Nat.le_of_ble_eq_true rfl⟩) (zpreV hK hN (va_recv hK hP (ci := 3) (q0 := 0) rfl rfl) hP) rfl rfl hl.1 rfl (lv_room (Nat.le_of_ble_eq_true rfl)) dX3_lost_137 ⟨Nat.le_of_ble_eq_true rfl, Nat.le_of_ble_eq_true rfl⟩) (fun r_137 hr_137 => ?_)
                    subst hr_137
                    refine lv_goto (tgt := 144) hx hb dX3_lost_140 (by decide) ?_
                    exact jn_116 _ ((congrArg nI (zif_t c_123)).symm)
              · refine lv_iload hx hb dX3_lost_91 (lv_at hl 7 rfl) ?_
                refine lv_iload hx hb dX3_lost_93 (lv_at hl 10 rfl) ?_
                refine vp_callSi (W.runS (As := [.int (nI m), .int (nI k)]) (rest := [.long (lN (bodds p2 m k))]) ⟨hx, hb, hml, hown, hts⟩ (m_X3_has l g (nI m) (nI k)) (va_cwS 2 hts (lw_S q1617 q1618 q69 q1619) rfl rfl rfl hdS_X3_has ⟨Nat.le_of_ble_eq_true rfl, Nat.le_of_ble_eq_true rfl⟩) (zpreS hK hN trivial) rfl rfl hl.1 rfl (lv_room (Nat.le_of_ble_eq_true rfl)) dX3_lost_95 ⟨Nat.le_of_ble_eq_true rfl, Nat.le_of_ble_eq_true rfl⟩) (fun r_95 hr_95 => ?_)
                subst hr_95
                refine zti (zB_c (zhas_nI (n := m) (k := k) (by omega) (by omega))) ?_
                refine zi_eqB (tgt := 109) hx hb dX3_lost_98 (by decide) (fun c_98 => ?_) (fun c_98 => ?_)
                · refine lv_iload_n hx hb dX3_lost_109 rfl (lv_at hl 3 rfl) ?_
                  refine lv_i2l (v := lN p2) hx hb dX3_lost_110 (nI_l (by omega)) ?_
                  exact jn_91 _ ((congrArg lN (zif_f c_98)).symm)
                · refine lv_bipush (v := nI 10) hx hb dX3_lost_101 (by decide) ?_
                  refine lv_iload_n hx hb dX3_lost_103 rfl (lv_at hl 3 rfl) ?_
                  refine lv_isub hx hb dX3_lost_104 ?_
                  refine zti (pk_sub (a := 10) (b := p2) (by omega)) ?_
                  refine lv_i2l (v := lN (10 - p2)) hx hb dX3_lost_105 (nI_l (by omega)) ?_
                  refine lv_goto (tgt := 111) hx hb dX3_lost_106 (by decide) ?_
                  exact jn_91 _ ((congrArg lN (zif_t c_98)).symm)
        · refine lv_ldc2 hx hb hown (hts _ q1571) dX3_lost_43 ?_
          exact W.lret (v := -1000001) hx hb hr (fun t ht hW => ⟨_, rfl, (by unfold opLost; rw [zif_t c_5, zif_t c_17, zif_t c_29, zif_f c_40]), ht⟩) (fun _ h => absurd h List.not_mem_nil) dX3_lost_46
