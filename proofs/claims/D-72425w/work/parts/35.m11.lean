/-! the twin: who, quiet, drawn -/
set_option maxHeartbeats 4000000 in
set_option maxRecDepth 100000 in
theorem m_X3_isSo (l : Launch) (g : zG) (ad : Nat → Nat) (fi : Nat → Int32) (cn : Nat → Nat → Int32) (xl : Nat → Nat → Int64) (sz : Nat) (T L P : Nat → Nat) (it : Nat → Int32) (hc6 : cn 6 = nF T) (hc9 : cn 9 = nF L) (hc10 : cn 10 = nF P) (hc3 : cn 3 = it) (hB : bOK T) (n r nm : Nat) (hn6 : n ≤ 6) (hr8 : r < 8) (hm40 : nm ≤ 40) : Met l yX3_isSo (ws_ yX3_isSo cX3_isSo 7 (some .boolean)) ({ frames := 4, cells := 0, slots := 0, locals := 95 }) (zPc g [.ref (ad 0), .int (nI n), .int (nI r), .int (nI nm)] (mH g ad fi cn xl sz)) (va_Qi (fun r9 u => r9 = zB (bso T n (fun j => it (40 * r + j)) nm) ∧ ∃ L9 P9, u = (fi, va_up (va_up cn 9 (nF L9)) 10 (nF P9), xl)) (mB g ad sz) (mA ad sz)) 0 0 (mA ad sz) := by
  refine Met.ofW (cc := cX3_isSo) (maxL := 7) (ret := (some .boolean)) (by decide) rfl ?_
  intro p e s m args below meth c s₁ B0 hml hv
  obtain ⟨rfl, ⟨hK, hN⟩, hsz, hP, hD⟩ := hv
  have hx := B0.exec
  have hb := B0.bytes
  have hr := B0.returns
  have hts := atoms_spec (ws := ws_ yX3_isSo cX3_isSo 7 (some .boolean)) B0.pre
  have hts : ∀ w ∈ lw_all, w.before _ s = true := fun w h => hts w (List.mem_cons_of_mem _ h)
  have hown : s.vm.findClass RX3 = some m.cls := findClass_of_methodNamed B0.named
  have hlocks := B0.notSynchronized
  subst hsz
  have hD := mD_self s.heap.size hD
  have hS : va_S (mA ad s.heap.size) s.heap s.heap [] := va_S.rf
  have hl := lv_entry ([.ref (ad 0), .int (nI n), .int (nI r), .int (nI nm)]) (n := 7) (Nat.le_of_ble_eq_true rfl)
  rw [lg_entry_eq]
  generalize (lg_sl ([.ref (ad 0), .int (nI n), .int (nI r), .int (nI nm)]) ++ List.replicate (7 - (lg_sl ([.ref (ad 0), .int (nI n), .int (nI r), .int (nI nm)])).length) Slot.unset).toArray = ls at hl ⊢
  have hl : lv_has ls 7 [(0, .ref (ad 0)), (1, .int (nI n)), (2, .int (nI r)), (3, .int (nI nm))] := hl
  have hBT := hB
  refine lv_aload_n hx hb dX3_isSo_0 rfl (lv_at hl 0 rfl) ?_
  refine lv_aload_n hx hb dX3_isSo_1 rfl (lv_at hl 0 rfl) ?_
  refine va_get (D := g.1) (ci := 3) (v := .ref (ad 6)) (C := RX3) (T := TX3) (N := 30) hx hb hts in_X3 hown hK hP 0 rfl rfl 6 (by decide) (hts _ q1303) (fun _ h9 => h9) rfl dX3_isSo_2 ?_
  refine lv_iload_n hx hb dX3_isSo_5 rfl (lv_at hl 1 rfl) ?_
  have hle_6 := hS.1
  refine va_calli (va_runV (As := [.ref (ad 6), .int (nI n)]) (rest := []) ⟨hx, hb, hml, hown, hts⟩ (m_X3_layGrown_6 l g ad fi cn xl _ T L P hc6 hc9 hc10 hBT n (by omega)) (cwV 2 hts (lw_V q1531 q1533 qs44 q69 q1534) rfl rfl rfl hdV_X3_layGrown ⟨Nat.le_of_ble_eq_true rfl, Nat.le_of_ble_eq_true rfl⟩) (zpreV hK hN (va_recv hK hP (ci := 3) (q0 := 0) rfl rfl) ⟨rfl, hP, hD.weaken (fun _ _ _ _ => trivial)⟩) rfl rfl hl.1 rfl (lv_room (Nat.le_of_ble_eq_true rfl)) dX3_isSo_6 ⟨Nat.le_of_ble_eq_true rfl, Nat.le_of_ble_eq_true rfl⟩) hS (fun q _ h => mA_le hS.1 q h) (mA_le hS.1) (fun r_6 u t H locs ht hvm hw_6 hB hzz hkk hS => ?_)
  obtain ⟨hP, hD⟩ := hB
  rw [ht] at hP
  have hD := hD.weaken (fun _ _ _ h => mA_le hle_6 _ h)
  obtain ⟨rfl, Lg9, Pg9, rfl, hG_9⟩ := hw_6
  have hP : va_P g.1 zCL (mW g ad fi (va_up (va_up cn 9 (nF Lg9)) 10 (nF Pg9)) xl) _ := hP
  have hD : va_D (mA ad s.heap.size) (mW g ad fi (va_up (va_up cn 9 (nF Lg9)) 10 (nF Pg9)) xl) := hD
  refine lv_istore (lv' := [(4, .int (zif (gok T n) (nI (grl T n).length) (-1000003))), (0, .ref (ad 0)), (1, .int (nI n)), (2, .int (nI r)), (3, .int (nI nm))]) hx hb dX3_isSo_9 hl (by decide) rfl (fun ls hl => ?_)
  refine zjoin (ls := ls) (α := Int32) (fun v9 => v9 = zB (gok T n ∧ nm ≤ (grl T n).length)) (fun v9 => .int v9 :: []) 22 (fun v9 hv => ?_) (fun jn_11 => ?_)
  · subst hv
    refine lv_istore (lv' := [(5, .int (zB (gok T n ∧ nm ≤ (grl T n).length))), (4, .int (zif (gok T n) (nI (grl T n).length) (-1000003))), (0, .ref (ad 0)), (1, .int (nI n)), (2, .int (nI r)), (3, .int (nI nm))]) hx hb dX3_isSo_22 hl (by decide) rfl (fun ls hl => ?_)
    refine lv_iconst (v := nI 0) hx hb dX3_isSo_24 (by decide) ?_
    refine lv_istore (lv' := [(6, .int (nI 0)), (5, .int (zB (gok T n ∧ nm ≤ (grl T n).length))), (4, .int (zif (gok T n) (nI (grl T n).length) (-1000003))), (0, .ref (ad 0)), (1, .int (nI n)), (2, .int (nI r)), (3, .int (nI nm))]) hx hb dX3_isSo_25 hl (by decide) rfl (fun ls hl => ?_)
    refine zloop (head := 27) (nL := 7) (nm) (fun k => [(0, .ref (ad 0)), (1, .int (nI n)), (2, .int (nI r)), (3, .int (nI nm)), (5, .int (zB ((gok T n ∧ nm ≤ (grl T n).length) ∧ ∀ q, q < k → nI ((grl T n).getD q 0) = it (40 * r + q)))), (6, .int (nI k))]) (fun k hv_k ih_27 ls hl => ?_) 0 (Nat.zero_le _) ((show zB (gok T n ∧ nm ≤ (grl T n).length) = zB ((gok T n ∧ nm ≤ (grl T n).length) ∧ ∀ q, q < 0 → nI ((grl T n).getD q 0) = it (40 * r + q)) from zB_c ⟨fun z => ⟨z, fun q hq => absurd hq (Nat.not_lt_zero _)⟩, fun z => z.1⟩) ▸ (lv_sub hl [3, 4, 5, 6, 1, 0] rfl))
    refine lv_iload hx hb dX3_isSo_27 (lv_at hl 5 rfl) ?_
    refine lv_iload_n hx hb dX3_isSo_29 rfl (lv_at hl 3 rfl) ?_
    refine zc_ge (tgt := 73) hx hb (by omega) (by omega) dX3_isSo_30 (by decide) (fun c_30 => ?_) (fun c_30 => ?_)
    · refine lv_iload hx hb dX3_isSo_73 (lv_at hl 4 rfl) ?_
      exact W.zret (v := zB ((gok T n ∧ nm ≤ (grl T n).length) ∧ ∀ q, q < k → nI ((grl T n).getD q 0) = it (40 * r + q))) hx hb hr (zB_nar _) (fun t ht hW => ⟨⟨zB ((gok T n ∧ nm ≤ (grl T n).length) ∧ ∀ q, q < k → nI ((grl T n).getD q 0) = it (40 * r + q)), (fi, va_up (va_up cn 9 (nF Lg9)) 10 (nF Pg9), xl), rfl, ⟨by rw [show nm = k by omega]; rfl, Lg9, Pg9, rfl⟩, by rw [ht]; exact hP, hD⟩, hS.F ht⟩) hS.2.2 dX3_isSo_75
    · refine lv_iload hx hb dX3_isSo_33 (lv_at hl 4 rfl) ?_
      refine zi_eqB (tgt := 73) hx hb dX3_isSo_35 (by decide) (fun c_35 => ?_) (fun c_35 => ?_)
      · refine lv_iload hx hb dX3_isSo_73 (lv_at hl 4 rfl) ?_
        exact W.zret (v := zB ((gok T n ∧ nm ≤ (grl T n).length) ∧ ∀ q, q < k → nI ((grl T n).getD q 0) = it (40 * r + q))) hx hb hr (zB_nar _) (fun t ht hW => ⟨⟨zB ((gok T n ∧ nm ≤ (grl T n).length) ∧ ∀ q, q < k → nI ((grl T n).getD q 0) = it (40 * r + q)), (fi, va_up (va_up cn 9 (nF Lg9)) 10 (nF Pg9), xl), rfl, ⟨zB_c ⟨fun z => absurd z c_35, fun z => absurd ⟨z.1, fun q hq => z.2 q (by omega)⟩ c_35⟩, Lg9, Pg9, rfl⟩, by rw [ht]; exact hP, hD⟩, hS.F ht⟩) hS.2.2 dX3_isSo_75
      · have hgk := c_35.1.1
        have hLg := hG_9 hgk
        have hg3 := hgk n (Nat.le_refl _)
        have hnm := c_35.1.2
        refine zjoin (ls := ls) (α := Int32) (fun v9 => v9 = zB ((gok T n ∧ nm ≤ (grl T n).length) ∧ ∀ q, q < (k + 1) → nI ((grl T n).getD q 0) = it (40 * r + q))) (fun v9 => .int v9 :: []) 65 (fun v9 hv => ?_) (fun jn_38 => ?_)
        · subst hv
          refine lv_istore (lv' := [(5, .int (zB ((gok T n ∧ nm ≤ (grl T n).length) ∧ ∀ q, q < (k + 1) → nI ((grl T n).getD q 0) = it (40 * r + q)))), (0, .ref (ad 0)), (1, .int (nI n)), (2, .int (nI r)), (3, .int (nI nm)), (6, .int (nI k))]) hx hb dX3_isSo_65 hl (by decide) rfl (fun ls hl => ?_)
          refine lv_iinc (v := nI (k + 1)) (lv' := [(6, .int (nI (k + 1))), (5, .int (zB ((gok T n ∧ nm ≤ (grl T n).length) ∧ ∀ q, q < (k + 1) → nI ((grl T n).getD q 0) = it (40 * r + q)))), (0, .ref (ad 0)), (1, .int (nI n)), (2, .int (nI r)), (3, .int (nI nm))]) hx hb dX3_isSo_67 hl (k := 5) rfl (nI_add k 1) (by decide) rfl (fun ls hl => ?_)
          refine lv_goto (tgt := 27) hx hb dX3_isSo_70 (by decide) ?_
          exact ih_27 (by omega) _ (lv_sub hl [2, 3, 4, 5, 1, 0] rfl)
        · refine lv_aload_n hx hb dX3_isSo_38 rfl (lv_at hl 0 rfl) ?_
          refine va_get (D := g.1) (ci := 3) (v := .ref (ad 9)) (C := RX3) (T := TX3) (N := 30) hx hb hts in_X3 hown hK hP 0 rfl rfl 9 (by decide) (hts _ q1306) (fun _ h9 => h9) rfl dX3_isSo_39 ?_
          refine lv_iload hx hb dX3_isSo_42 (lv_at hl 5 rfl) ?_
          refine zald hx hb hK hP 8 0 rfl rfl (j := k) (by omega) (by decide) dX3_isSo_44 ?_
          refine zti (show (nF Lg9) k = nI (Lg9 k) from rfl) ?_
          refine lv_aload_n hx hb dX3_isSo_45 rfl (lv_at hl 0 rfl) ?_
          refine va_get (D := g.1) (ci := 3) (v := .ref (ad 3)) (C := RX3) (T := TX3) (N := 30) hx hb hts in_X3 hown hK hP 0 rfl rfl 3 (by decide) (hts _ q1300) (fun _ h9 => h9) rfl dX3_isSo_46 ?_
          refine lv_bipush (v := nI 40) hx hb dX3_isSo_49 (by decide) ?_
          refine lv_iload_n hx hb dX3_isSo_51 rfl (lv_at hl 2 rfl) ?_
          refine lv_imul hx hb dX3_isSo_52 ?_
          refine zti (pk_mul 40 r) ?_
          refine lv_iload hx hb dX3_isSo_53 (lv_at hl 5 rfl) ?_
          refine lv_iadd hx hb dX3_isSo_55 ?_
          refine zti (nI_add (40 * r) k) ?_
          refine zald hx hb hK hP 3 0 rfl rfl (j := 40 * r + k) (by omega) (by decide) dX3_isSo_56 ?_
          refine zti (congrFun hc3 _) ?_
          refine lv_icmp_ne (tgt := 64) hx hb dX3_isSo_57 (by decide) (fun c_57 => ?_) (fun c_57 => ?_)
          · refine lv_iconst (v := nI 0) hx hb dX3_isSo_64 (by decide) ?_
            exact jn_38 _ ((zB_f (fun z => c_57 (by rw [hLg k (by omega)]; exact z.2 k (by omega)))).symm)
          · refine lv_iconst (v := nI 1) hx hb dX3_isSo_60 (by decide) ?_
            refine lv_goto (tgt := 65) hx hb dX3_isSo_61 (by decide) ?_
            exact jn_38 _ ((zB_t ⟨c_35.1, lt_s c_35.2 (by rw [← hLg k (by omega)]; exact c_57)⟩).symm)
  · refine lv_iload hx hb dX3_isSo_11 (lv_at hl 0 rfl) ?_
    by_cases hgk : gok T n
    · refine zti (show _ = nI ((grl T n).length) from zif_t hgk) ?_
      have hg3 := hgk n (Nat.le_refl _)
      refine lv_iload_n hx hb dX3_isSo_13 rfl (lv_at hl 4 rfl) ?_
      refine zc_lt (tgt := 21) hx hb (by omega) (by omega) dX3_isSo_14 (by decide) (fun c_14 => ?_) (fun c_14 => ?_)
      · refine lv_iconst (v := nI 0) hx hb dX3_isSo_21 (by decide) ?_
        exact jn_11 _ ((zB_f (fun z => absurd z.2 (by omega))).symm)
      · refine lv_iconst (v := nI 1) hx hb dX3_isSo_17 (by decide) ?_
        refine lv_goto (tgt := 22) hx hb dX3_isSo_18 (by decide) ?_
        exact jn_11 _ ((zB_t ⟨hgk, by omega⟩).symm)
    · refine zti (show _ = -1000003 from zif_f hgk) ?_
      refine lv_iload_n hx hb dX3_isSo_13 rfl (lv_at hl 4 rfl) ?_
      refine lv_icmp_lt (tgt := 21) hx hb dX3_isSo_14 (by decide) (fun c_14 => ?_) (fun c_14 => ?_)
      · refine lv_iconst (v := nI 0) hx hb dX3_isSo_21 (by decide) ?_
        exact jn_11 _ ((zB_f (fun z => hgk z.1)).symm)
      · exact absurd (nI_lF (by omega)) c_14

set_option maxHeartbeats 4000000 in
set_option maxRecDepth 100000 in
theorem m_X3_who (l : Launch) (g : zG) (ad : Nat → Nat) (fi : Nat → Int32) (cn : Nat → Nat → Int32) (xl : Nat → Nat → Int64) (sz : Nat) (S : zS) (hM : MR S fi cn) (hX : MX fi cn xl) (hI : SI S) (s2 i2 w2 n2 r2 m2 : Int32) : Met l yX3_who (ws_ yX3_who cX3_who 10 (some .int)) ({ frames := 5, cells := 0, slots := 0, locals := 121 }) (zPc g [.ref (ad 0), .int s2, .int i2, .int w2, .int n2, .int r2, .int m2] (mH g ad fi cn xl sz)) (va_Qi (fun (r9 : Int32) u => r9 = (opWho S s2 i2 w2 n2 r2 m2 ).1 ∧ MR (opWho S s2 i2 w2 n2 r2 m2 ).2 u.1 u.2.1 ∧ MX u.1 u.2.1 u.2.2) (mB g ad sz) (mA ad sz)) 0 0 (mA ad sz) := by
  refine Met.ofW (cc := cX3_who) (maxL := 10) (ret := (some .int)) (by decide) rfl ?_
  intro p e s m args below meth c s₁ B0 hml hv
  obtain ⟨rfl, ⟨hK, hN⟩, hsz, hP, hD⟩ := hv
  have hx := B0.exec
  have hb := B0.bytes
  have hr := B0.returns
  have hts := atoms_spec (ws := ws_ yX3_who cX3_who 10 (some .int)) B0.pre
  have hts : ∀ w ∈ lw_all, w.before _ s = true := fun w h => hts w (List.mem_cons_of_mem _ h)
  have hown : s.vm.findClass RX3 = some m.cls := findClass_of_methodNamed B0.named
  have hlocks := B0.notSynchronized
  subst hsz
  have hD := mD_self s.heap.size hD
  have hS : va_S (mA ad s.heap.size) s.heap s.heap [] := va_S.rf
  have hl := lv_entry ([.ref (ad 0), .int s2, .int i2, .int w2, .int n2, .int r2, .int m2]) (n := 10) (Nat.le_of_ble_eq_true rfl)
  rw [lg_entry_eq]
  generalize (lg_sl ([.ref (ad 0), .int s2, .int i2, .int w2, .int n2, .int r2, .int m2]) ++ List.replicate (10 - (lg_sl ([.ref (ad 0), .int s2, .int i2, .int w2, .int n2, .int r2, .int m2])).length) Slot.unset).toArray = ls at hl ⊢
  have hl : lv_has ls 10 [(0, .ref (ad 0)), (1, .int s2), (2, .int i2), (3, .int w2), (4, .int n2), (5, .int r2), (6, .int m2)] := hl
  obtain ⟨hf0, hf8, hf12, hf19, hf29, hc1, hc2, hc3, hc4, hc7, hc11, hc26, hc27, hc28⟩ := hM
  obtain ⟨F5, F6, F9, F10, F24, E25, N21, N22, b23, hc5, hc6, hc9, hc10, hc24, hc25, hc21, hc22, hf23⟩ := hX
  have hB : bOK (S.2.1 4) := hI.1
  have h0 : S.2.1 4 0 ≤ 4 := hB.n4
  have h3 : S.2.1 4 3 ≤ 8 := hB.r8
  have hac := hI.2.2.1
  have hta := hI.2.2.2.1
  have hmn := hI.2.2.2.2.2.2.1
  have htn := hI.2.2.2.2.2.1
  refine lv_aload_n hx hb dX3_who_0 rfl (lv_at hl 0 rfl) ?_
  refine lv_iload_n hx hb dX3_who_1 rfl (lv_at hl 1 rfl) ?_
  have hQ_2 : va_P g.1 zCL [(ad 0, .inr (3, mO ad fi)), (ad 4, .inl (g.2 0, 44, .inl (cn 4)))] _ := hP.sub [0, 4] rfl
  rw [show _ = _ from hc4] at hQ_2
  refine vp_callSi (W.runV (As := [.int s2]) (rest := []) ⟨hx, hb, hml, hown, hts⟩ (m_X3_isSort l g ad fi (S.2.1 4) hB s2) (cwV 1 hts (lw_V q1480 q1482 qs39 q69 q1483) rfl rfl rfl hdV_X3_isSort ⟨Nat.le_of_ble_eq_true rfl, Nat.le_of_ble_eq_true rfl⟩) (zpreV hK hN (va_recv hK hP (ci := 3) (q0 := 0) rfl rfl) hQ_2) rfl rfl hl.1 rfl (lv_room (Nat.le_of_ble_eq_true rfl)) dX3_who_2 ⟨Nat.le_of_ble_eq_true rfl, Nat.le_of_ble_eq_true rfl⟩) (fun r_2 hr_2 => ?_)
  subst hr_2
  refine zi_eqB (tgt := 54) hx hb dX3_who_5 (by decide) (fun c_5 => ?_) (fun c_5 => ?_)
  · refine lv_ldc hx hb hown (hts _ q1401) dX3_who_54 ?_
    exact W.iret (v := -1000001) hx hb hr (fun t ht hW => ⟨⟨-1000001, (fi, cn, xl), rfl, (by unfold opWho; rw [zif_f c_5]; exact ⟨rfl, ⟨hf0, hf8, hf12, hf19, hf29, hc1, hc2, hc3, hc4, hc7, hc11, hc26, hc27, hc28⟩, ⟨_, _, _, _, _, _, _, _, _, hc5, hc6, hc9, hc10, hc24, hc25, hc21, hc22, hf23⟩⟩), by rw [ht]; exact hP, hD⟩, hS.F ht⟩) hS.2.2 dX3_who_56
  · refine lv_iload_n hx hb dX3_who_8 rfl (lv_at hl 3 rfl) ?_
    refine lv_i2l hx hb dX3_who_9 rfl ?_
    refine lv_lconst (v := lN 0) hx hb dX3_who_10 (by decide) ?_
    refine lv_ldc2 hx hb hown (hts _ q1400) dX3_who_11 ?_
    refine ztl (show (2 : Int64) = lN 2 from rfl) ?_
    refine vp_callSi (W.runS (As := [.long w2.toInt64, .long (lN 0), .long (lN 2)]) (rest := []) ⟨hx, hb, hml, hown, hts⟩ (m_X3_in l g w2.toInt64 (lN 0) (lN 2)) (va_cwS 3 hts (lw_S q1397 q1398 q69 q1399) rfl rfl rfl hdS_X3_in ⟨Nat.le_of_ble_eq_true rfl, Nat.le_of_ble_eq_true rfl⟩) (zpreS hK hN trivial) rfl rfl hl.1 rfl (lv_room (Nat.le_of_ble_eq_true rfl)) dX3_who_14 ⟨Nat.le_of_ble_eq_true rfl, Nat.le_of_ble_eq_true rfl⟩) (fun r_14 hr_14 => ?_)
    subst hr_14
    refine zti (show _ = zB (zIn w2 0 2) from zB_c (zIn_l w2 (by omega) (by omega))) ?_
    refine zi_eqB (tgt := 54) hx hb dX3_who_17 (by decide) (fun c_17 => ?_) (fun c_17 => ?_)
    · refine lv_ldc hx hb hown (hts _ q1401) dX3_who_54 ?_
      exact W.iret (v := -1000001) hx hb hr (fun t ht hW => ⟨⟨-1000001, (fi, cn, xl), rfl, (by unfold opWho; rw [zif_t c_5, zif_f c_17]; exact ⟨rfl, ⟨hf0, hf8, hf12, hf19, hf29, hc1, hc2, hc3, hc4, hc7, hc11, hc26, hc27, hc28⟩, ⟨_, _, _, _, _, _, _, _, _, hc5, hc6, hc9, hc10, hc24, hc25, hc21, hc22, hf23⟩⟩), by rw [ht]; exact hP, hD⟩, hS.F ht⟩) hS.2.2 dX3_who_56
    · refine lv_iload hx hb dX3_who_20 (lv_at hl 4 rfl) ?_
      refine lv_i2l hx hb dX3_who_22 rfl ?_
      refine lv_lconst (v := lN 0) hx hb dX3_who_23 (by decide) ?_
      refine lv_ldc2 hx hb hown (hts _ q1561) dX3_who_24 ?_
      refine ztl (show (6 : Int64) = lN 6 from rfl) ?_
      refine vp_callSi (W.runS (As := [.long n2.toInt64, .long (lN 0), .long (lN 6)]) (rest := []) ⟨hx, hb, hml, hown, hts⟩ (m_X3_in l g n2.toInt64 (lN 0) (lN 6)) (va_cwS 3 hts (lw_S q1397 q1398 q69 q1399) rfl rfl rfl hdS_X3_in ⟨Nat.le_of_ble_eq_true rfl, Nat.le_of_ble_eq_true rfl⟩) (zpreS hK hN trivial) rfl rfl hl.1 rfl (lv_room (Nat.le_of_ble_eq_true rfl)) dX3_who_27 ⟨Nat.le_of_ble_eq_true rfl, Nat.le_of_ble_eq_true rfl⟩) (fun r_27 hr_27 => ?_)
      subst hr_27
      refine zti (show _ = zB (zIn n2 0 6) from zB_c (zIn_l n2 (by omega) (by omega))) ?_
      refine zi_eqB (tgt := 54) hx hb dX3_who_30 (by decide) (fun c_30 => ?_) (fun c_30 => ?_)
      · refine lv_ldc hx hb hown (hts _ q1401) dX3_who_54 ?_
        exact W.iret (v := -1000001) hx hb hr (fun t ht hW => ⟨⟨-1000001, (fi, cn, xl), rfl, (by unfold opWho; rw [zif_t c_5, zif_t c_17, zif_f c_30]; exact ⟨rfl, ⟨hf0, hf8, hf12, hf19, hf29, hc1, hc2, hc3, hc4, hc7, hc11, hc26, hc27, hc28⟩, ⟨_, _, _, _, _, _, _, _, _, hc5, hc6, hc9, hc10, hc24, hc25, hc21, hc22, hf23⟩⟩), by rw [ht]; exact hP, hD⟩, hS.F ht⟩) hS.2.2 dX3_who_56
      · refine lv_iload hx hb dX3_who_33 (lv_at hl 5 rfl) ?_
        refine vp_callSi (W.runS (As := [.int r2]) (rest := []) ⟨hx, hb, hml, hown, hts⟩ (m_X3_isRow l g r2) (va_cwS 1 hts (lw_S q1393 q1394 q69 q1395) rfl rfl rfl hdS_X3_isRow ⟨Nat.le_of_ble_eq_true rfl, Nat.le_of_ble_eq_true rfl⟩) (zpreS hK hN trivial) rfl rfl hl.1 rfl (lv_room (Nat.le_of_ble_eq_true rfl)) dX3_who_35 ⟨Nat.le_of_ble_eq_true rfl, Nat.le_of_ble_eq_true rfl⟩) (fun r_35 hr_35 => ?_)
        subst hr_35
        refine zi_eqB (tgt := 54) hx hb dX3_who_38 (by decide) (fun c_38 => ?_) (fun c_38 => ?_)
        · refine lv_ldc hx hb hown (hts _ q1401) dX3_who_54 ?_
          exact W.iret (v := -1000001) hx hb hr (fun t ht hW => ⟨⟨-1000001, (fi, cn, xl), rfl, (by unfold opWho; rw [zif_t c_5, zif_t c_17, zif_t c_30, zif_f c_38]; exact ⟨rfl, ⟨hf0, hf8, hf12, hf19, hf29, hc1, hc2, hc3, hc4, hc7, hc11, hc26, hc27, hc28⟩, ⟨_, _, _, _, _, _, _, _, _, hc5, hc6, hc9, hc10, hc24, hc25, hc21, hc22, hf23⟩⟩), by rw [ht]; exact hP, hD⟩, hS.F ht⟩) hS.2.2 dX3_who_56
        · refine lv_iload hx hb dX3_who_41 (lv_at hl 6 rfl) ?_
          refine lv_i2l hx hb dX3_who_43 rfl ?_
          refine lv_lconst (v := lN 1) hx hb dX3_who_44 (by decide) ?_
          refine lv_ldc2 hx hb hown (hts _ q1627) dX3_who_45 ?_
          refine ztl (show (40 : Int64) = lN 40 from rfl) ?_
          refine vp_callSi (W.runS (As := [.long m2.toInt64, .long (lN 1), .long (lN 40)]) (rest := []) ⟨hx, hb, hml, hown, hts⟩ (m_X3_in l g m2.toInt64 (lN 1) (lN 40)) (va_cwS 3 hts (lw_S q1397 q1398 q69 q1399) rfl rfl rfl hdS_X3_in ⟨Nat.le_of_ble_eq_true rfl, Nat.le_of_ble_eq_true rfl⟩) (zpreS hK hN trivial) rfl rfl hl.1 rfl (lv_room (Nat.le_of_ble_eq_true rfl)) dX3_who_48 ⟨Nat.le_of_ble_eq_true rfl, Nat.le_of_ble_eq_true rfl⟩) (fun r_48 hr_48 => ?_)
          subst hr_48
          refine zti (show _ = zB (zIn m2 1 40) from zB_c (zIn_l m2 (by omega) (by omega))) ?_
          refine zi_neB (tgt := 57) hx hb dX3_who_51 (by decide) (fun c_51 => ?_) (fun c_51 => ?_)
          · obtain ⟨x, rfl, hu_x, hv_x⟩ := zIn_ex c_5 (by omega)
            obtain ⟨w, rfl, hu_w, hv_w⟩ := zIn_ex c_17 (by omega)
            obtain ⟨n, rfl, hu_n, hv_n⟩ := zIn_ex c_30 (by omega)
            obtain ⟨r, rfl, hu_r, hv_r⟩ := zIn_ex c_38 (by omega)
            obtain ⟨nm, rfl, hu_nm, hv_nm⟩ := zIn_ex c_51 (by omega)
            have hx0 : x < S.2.1 4 0 := by omega
            have hxw := (hB.wl hx0).2
            have hmr := hmn r (by omega)
            have hzw8 : zif (w = 1) (S.2.1 4 3) (bwl (S.2.1 4) x) ≤ 8 := zif_ind (fun z => z ≤ 8) h3 (by omega)
            refine lv_iload_n hx hb dX3_who_57 rfl (lv_at hl 3 rfl) ?_
            refine zi_le (tgt := 98) hx hb (by omega) dX3_who_58 (by decide) (fun c_58 => ?_) (fun c_58 => ?_)
            · obtain rfl : w = 0 := by omega
              refine lv_aload_n hx hb dX3_who_98 rfl (lv_at hl 0 rfl) ?_
              refine lv_iload hx hb dX3_who_99 (lv_at hl 5 rfl) ?_
              refine lv_iload hx hb dX3_who_101 (lv_at hl 6 rfl) ?_
              have hle_103 := hS.1
              refine va_calli (va_runV (As := [.int (nI r), .int (nI nm)]) (rest := []) ⟨hx, hb, hml, hown, hts⟩ (m_X3_lacks l g ad fi cn xl _ (S.2.2.1 1) (S.2.1 2) hc1 hc2 r nm (by omega) (by omega) (by omega)) (cwV 2 hts (lw_V q1489 q1491 qs41 q69 q1492) rfl rfl rfl hdV_X3_lacks ⟨Nat.le_of_ble_eq_true rfl, Nat.le_of_ble_eq_true rfl⟩) (zpreV hK hN (va_recv hK hP (ci := 3) (q0 := 0) rfl rfl) ⟨rfl, hP, hD.weaken (fun _ _ _ _ => trivial)⟩) rfl rfl hl.1 rfl (lv_room (Nat.le_of_ble_eq_true rfl)) dX3_who_103 ⟨Nat.le_of_ble_eq_true rfl, Nat.le_of_ble_eq_true rfl⟩) hS (fun q _ h => mA_le hS.1 q h) (mA_le hS.1) (fun r_103 u t H locs ht hvm hw_103 hB hzz hkk hS => ?_)
              obtain ⟨hP, hD⟩ := hB
              rw [ht] at hP
              have hD := hD.weaken (fun _ _ _ h => mA_le hle_103 _ h)
              obtain ⟨rfl, rfl⟩ := hw_103
              have hP : va_P g.1 zCL (mW g ad (va_up fi 0 (nI (zlk (S.2.2.1 1) (S.2.1 2) r nm))) cn xl) _ := hP
              have hD : va_D (mA ad s.heap.size) (mW g ad (va_up fi 0 (nI (zlk (S.2.2.1 1) (S.2.1 2) r nm))) cn xl) := hD
              by_cases hll : zlk (S.2.2.1 1) (S.2.1 2) r nm = 0
              · refine zti (show _ = nI 0 from by rw [hll, zres_0]) ?_
                refine lv_istore (lv' := [(7, .int (nI 0)), (0, .ref (ad 0)), (1, .int (nI x)), (2, .int i2), (3, .int (nI 0)), (4, .int (nI n)), (5, .int (nI r)), (6, .int (nI nm))]) hx hb dX3_who_106 hl (by decide) rfl (fun ls hl => ?_)
                refine lv_iload hx hb dX3_who_108 (lv_at hl 0 rfl) ?_
                refine zi_eq (tgt := 116) hx hb (by omega) dX3_who_110 (by decide) (fun c_110 => ?_) (fun c_110 => ?_)
                · refine lv_iconst (v := nI 0) hx hb dX3_who_116 (by decide) ?_
                  refine lv_istore (lv' := [(8, .int (nI 0)), (7, .int (nI 0)), (0, .ref (ad 0)), (1, .int (nI x)), (2, .int i2), (3, .int (nI 0)), (4, .int (nI n)), (5, .int (nI r)), (6, .int (nI nm))]) hx hb dX3_who_117 hl (by decide) rfl (fun ls hl => ?_)
                  refine lv_iload_n hx hb dX3_who_119 rfl (lv_at hl 5 rfl) ?_
                  refine zi_ne (tgt := 127) hx hb (by omega) dX3_who_120 (by decide) (fun c_120 => ?_) (fun c_120 => ?_)
                  · omega
                  · refine lv_iconst (v := nI 1) hx hb dX3_who_123 (by decide) ?_
                    refine lv_goto (tgt := 128) hx hb dX3_who_124 (by decide) ?_
                    refine lv_istore (lv' := [(9, .int (nI 1)), (8, .int (nI 0)), (7, .int (nI 0)), (0, .ref (ad 0)), (1, .int (nI x)), (2, .int i2), (3, .int (nI 0)), (4, .int (nI n)), (5, .int (nI r)), (6, .int (nI nm))]) hx hb dX3_who_128 hl (by decide) rfl (fun ls hl => ?_)
                    refine zloopW (head := 130) (5) (fun k H locs cells slots ls => ∃ (T0 : Nat → Nat) (L0 : Nat → Nat) (P0 : Nat → Nat), cells = 0 ∧ slots = 0 ∧ va_P g.1 zCL (mW g ad (va_up fi 0 (nI (zlk (S.2.2.1 1) (S.2.1 2) r nm))) (va_up (va_up (va_up cn 6 (nF T0)) 9 (nF L0)) 10 (nF P0)) xl) H ∧ va_D (mA ad s.heap.size) (mW g ad (va_up fi 0 (nI (zlk (S.2.2.1 1) (S.2.1 2) r nm))) (va_up (va_up (va_up cn 6 (nF T0)) 9 (nF L0)) 10 (nF P0)) xl) ∧ va_S (mA ad s.heap.size) s.heap H locs ∧ lv_has ls 10 [(0, .ref (ad 0)), (1, .int (nI x)), (2, .int i2), (3, .int (nI 0)), (4, .int (nI n)), (5, .int (nI r)), (6, .int (nI nm)), (8, .int (nI (bwho (S.2.1 4) x (zn i2) 0 n (fun q => S.2.2.1 3 (40 * r + q)) nm 1 k))), (9, .int (nI (1 + k)))] ∧ True) (fun k hv_k ih_130 H locs cells slots ls hI => ?_) 0 (Nat.zero_le _) ?_
                    · obtain ⟨T0, L0, P0, rfl, rfl, hP, hD, hS, hl, hI_130⟩ := hI
                      refine lv_iload hx hb dX3_who_130 (lv_at hl 8 rfl) ?_
                      refine lv_iload_n hx hb dX3_who_132 rfl (lv_at hl 3 rfl) ?_
                      refine zi_ne (tgt := 141) hx hb (by omega) dX3_who_133 (by decide) (fun c_133 => ?_) (fun c_133 => ?_)
                      · omega
                      · refine lv_bipush (v := nI 6) hx hb dX3_who_136 (by decide) ?_
                        refine lv_goto (tgt := 147) hx hb dX3_who_138 (by decide) ?_
                        refine zc_ge (tgt := 229) hx hb (by omega) (by omega) dX3_who_147 (by decide) (fun c_147 => ?_) (fun c_147 => ?_)
                        · obtain rfl : 5 = k := by omega
                          refine lv_iload hx hb dX3_who_229 (lv_at hl 7 rfl) ?_
                          exact W.iret (v := nI (bwho (S.2.1 4) x (zn i2) 0 n (fun q => S.2.2.1 3 (40 * r + q)) nm 1 5)) hx hb hr (fun t ht hW => ⟨⟨nI (bwho (S.2.1 4) x (zn i2) 0 n (fun q => S.2.2.1 3 (40 * r + q)) nm 1 5), (va_up fi 0 (nI (zlk (S.2.2.1 1) (S.2.1 2) r nm)), va_up (va_up (va_up cn 6 (nF T0)) 9 (nF L0)) 10 (nF P0), xl), rfl, (by unfold opWho; (try rw [zn_nI (n := x) (by omega)]); (try rw [zn_nI (n := n) (by omega)]); (try rw [zn_nI (n := r) (by omega)]); (try rw [zn_nI (n := nm) (by omega)]); (try rw [zn_nI (n := 0) (by omega)]); rw [zif_t c_5, zif_t c_17, zif_t c_30, zif_t c_38, zif_t c_51, zif_f (show ¬ (0 < 0 ∧ ¬ zIn i2 0 ((zif (0 = 1) (S.2.1 4 3) (bwl (S.2.1 4) x) : Nat) - 1 : Int)) from fun z => absurd z.1 (by omega)), zif_t hll, zif_t (show 0 = 0 from rfl)]; exact ⟨rfl, ⟨(congrArg nI hll), hf8, hf12, hf19, hf29, hc1, hc2, hc3, hc4, hc7, hc11, hc26, hc27, hc28⟩, ⟨_, _, _, _, _, _, _, _, _, hc5, rfl, rfl, rfl, hc24, hc25, hc21, hc22, hf23⟩⟩), by rw [ht]; exact hP, hD⟩, hS.F ht⟩) hS.2.2 dX3_who_231
                        · refine lv_aload_n hx hb dX3_who_150 rfl (lv_at hl 0 rfl) ?_
                          have hle_151 := hS.1
                          refine va_callv (va_runV (As := []) (rest := []) ⟨hx, hb, hml, hown, hts⟩ (m_X3_layThen l g ad (va_up fi 0 (nI (zlk (S.2.2.1 1) (S.2.1 2) r nm))) (va_up (va_up (va_up cn 6 (nF T0)) 9 (nF L0)) 10 (nF P0)) xl _ (S.2.1 4) T0 hc4 rfl) (cwV 0 hts (lw_V q1645 q1647 qs53 q69 q1648) rfl rfl rfl hdV_X3_layThen ⟨Nat.le_of_ble_eq_true rfl, Nat.le_of_ble_eq_true rfl⟩) (zpreV hK hN (va_recv hK hP (ci := 3) (q0 := 0) rfl rfl) ⟨rfl, hP, hD.weaken (fun _ _ _ _ => trivial)⟩) rfl rfl hl.1 rfl (lv_room (Nat.le_of_ble_eq_true rfl)) dX3_who_151 ⟨Nat.le_of_ble_eq_true rfl, Nat.le_of_ble_eq_true rfl⟩) hS (fun q _ h => mA_le hS.1 q h) (mA_le hS.1) (fun u t H locs ht hvm hw_151 hB hzz hkk hS => ?_)
                          obtain ⟨hP, hD⟩ := hB
                          rw [ht] at hP
                          have hD := hD.weaken (fun _ _ _ h => mA_le hle_151 _ h)
                          obtain ⟨_, rfl⟩ := hw_151
                          have hP : va_P g.1 zCL (mW g ad (va_up fi 0 (nI (zlk (S.2.2.1 1) (S.2.1 2) r nm))) (va_up (va_up (va_up cn 6 (nF (S.2.1 4))) 9 (nF L0)) 10 (nF P0)) xl) _ := hP
                          have hD : va_D (mA ad s.heap.size) (mW g ad (va_up fi 0 (nI (zlk (S.2.2.1 1) (S.2.1 2) r nm))) (va_up (va_up (va_up cn 6 (nF (S.2.1 4))) 9 (nF L0)) 10 (nF P0)) xl) := hD
                          refine lv_aload_n hx hb dX3_who_154 rfl (lv_at hl 0 rfl) ?_
                          refine va_get (D := g.1) (ci := 3) (v := .ref (ad 6)) (C := RX3) (T := TX3) (N := 30) hx hb hts in_X3 hown hK hP 0 rfl rfl 6 (by decide) (hts _ q1303) (fun _ h9 => h9) rfl dX3_who_155 ?_
                          refine zjoin (ls := ls) (α := Int32) (fun v9 => v9 = nI (bpl x (zn i2) 0)) (fun v9 => .int v9 :: [.ref (ad 6)]) 194 (fun v9 hv => ?_) (fun jn_158 => ?_)
                          · subst hv
                            have hpl : bpl x (zn i2) 0 = 12 + 8 * x := rfl
                            have hBT : bOK (va_up (S.2.1 4) (bpl x (zn i2) 0) (1 + k)) := hB.trKind (by omega) (by omega) (by omega)
                            refine lv_iload hx hb dX3_who_194 (lv_at hl 8 rfl) ?_
                            refine zast (f := nF (S.2.1 4)) hx hb hK hP hD hS 6 0 rfl rfl (j := bpl x (zn i2) 0) (by omega) (by decide) dX3_who_196 (fun H locs hP hD hS => ?_)
                            rw [nF_up] at hP hD
                            have hP : va_P g.1 zCL (mW g ad (va_up fi 0 (nI (zlk (S.2.2.1 1) (S.2.1 2) r nm))) (va_up (va_up (va_up cn 6 (nF (va_up (S.2.1 4) (bpl x (zn i2) 0) (1 + k)))) 9 (nF L0)) 10 (nF P0)) xl) _ := hP
                            have hD : va_D (mA ad s.heap.size) (mW g ad (va_up fi 0 (nI (zlk (S.2.2.1 1) (S.2.1 2) r nm))) (va_up (va_up (va_up cn 6 (nF (va_up (S.2.1 4) (bpl x (zn i2) 0) (1 + k)))) 9 (nF L0)) 10 (nF P0)) xl) := hD
                            refine lv_iload hx hb dX3_who_197 (lv_at hl 7 rfl) ?_
                            refine lv_aload_n hx hb dX3_who_199 rfl (lv_at hl 0 rfl) ?_
                            refine lv_iload hx hb dX3_who_200 (lv_at hl 4 rfl) ?_
                            refine lv_iload hx hb dX3_who_202 (lv_at hl 5 rfl) ?_
                            refine lv_iload hx hb dX3_who_204 (lv_at hl 6 rfl) ?_
                            have hle_206 := hS.1
                            refine va_calli (va_runV (As := [.int (nI n), .int (nI r), .int (nI nm)]) (rest := [.int (nI (bwho (S.2.1 4) x (zn i2) 0 n (fun q => S.2.2.1 3 (40 * r + q)) nm 1 k))]) ⟨hx, hb, hml, hown, hts⟩ (m_X3_isSo l g ad (va_up fi 0 (nI (zlk (S.2.2.1 1) (S.2.1 2) r nm))) (va_up (va_up (va_up cn 6 (nF (va_up (S.2.1 4) (bpl x (zn i2) 0) (1 + k)))) 9 (nF L0)) 10 (nF P0)) xl _ (va_up (S.2.1 4) (bpl x (zn i2) 0) (1 + k)) L0 P0 (S.2.2.1 3) rfl rfl rfl hc3 hBT n r nm (by omega) (by omega) (by omega)) (cwV 3 hts (lw_V q1649 q1651 qs54 q69 q1652) rfl rfl rfl hdV_X3_isSo ⟨Nat.le_of_ble_eq_true rfl, Nat.le_of_ble_eq_true rfl⟩) (zpreV hK hN (va_recv hK hP (ci := 3) (q0 := 0) rfl rfl) ⟨rfl, hP, hD.weaken (fun _ _ _ _ => trivial)⟩) rfl rfl hl.1 rfl (lv_room (Nat.le_of_ble_eq_true rfl)) dX3_who_206 ⟨Nat.le_of_ble_eq_true rfl, Nat.le_of_ble_eq_true rfl⟩) hS (fun q _ h => mA_le hS.1 q h) (mA_le hS.1) (fun r_206 u t H locs ht hvm hw_206 hB hzz hkk hS => ?_)
                            obtain ⟨hP, hD⟩ := hB
                            rw [ht] at hP
                            have hD := hD.weaken (fun _ _ _ h => mA_le hle_206 _ h)
                            obtain ⟨rfl, L1, P1, rfl⟩ := hw_206
                            have hP : va_P g.1 zCL (mW g ad (va_up fi 0 (nI (zlk (S.2.2.1 1) (S.2.1 2) r nm))) (va_up (va_up (va_up cn 6 (nF (va_up (S.2.1 4) (bpl x (zn i2) 0) (1 + k)))) 9 (nF L1)) 10 (nF P1)) xl) _ := hP
                            have hD : va_D (mA ad s.heap.size) (mW g ad (va_up fi 0 (nI (zlk (S.2.2.1 1) (S.2.1 2) r nm))) (va_up (va_up (va_up cn 6 (nF (va_up (S.2.1 4) (bpl x (zn i2) 0) (1 + k)))) 9 (nF L1)) 10 (nF P1)) xl) := hD
                            refine zjoin (ls := ls) (α := Int32) (fun v9 => v9 = nI (zif (bso (va_up (S.2.1 4) (bpl x (zn i2) 0) (1 + k)) n (fun q => S.2.2.1 3 (40 * r + q)) nm) (2 ^ (1 + k)) 0)) (fun v9 => .int v9 :: [.int (nI (bwho (S.2.1 4) x (zn i2) 0 n (fun q => S.2.2.1 3 (40 * r + q)) nm 1 k))]) 220 (fun v9 hv => ?_) (fun jn_209 => ?_)
                            · subst hv
                              refine lv_ior hx hb dX3_who_220 ?_
                              refine zti (z_or (bwho (S.2.1 4) x (zn i2) 0 n (fun q => S.2.2.1 3 (40 * r + q)) nm 1 k) (zif (bso (va_up (S.2.1 4) (bpl x (zn i2) 0) (1 + k)) n (fun q => S.2.2.1 3 (40 * r + q)) nm) (2 ^ (1 + k)) 0)) ?_
                              refine lv_istore (lv' := [(8, .int (nI ((bwho (S.2.1 4) x (zn i2) 0 n (fun q => S.2.2.1 3 (40 * r + q)) nm 1 k) ||| (zif (bso (va_up (S.2.1 4) (bpl x (zn i2) 0) (1 + k)) n (fun q => S.2.2.1 3 (40 * r + q)) nm) (2 ^ (1 + k)) 0)))), (0, .ref (ad 0)), (1, .int (nI x)), (2, .int i2), (3, .int (nI 0)), (4, .int (nI n)), (5, .int (nI r)), (6, .int (nI nm)), (9, .int (nI (1 + k)))]) hx hb dX3_who_221 hl (by decide) rfl (fun ls hl => ?_)
                              refine lv_iinc (v := nI (1 + k + 1)) (lv' := [(9, .int (nI (1 + k + 1))), (8, .int (nI ((bwho (S.2.1 4) x (zn i2) 0 n (fun q => S.2.2.1 3 (40 * r + q)) nm 1 k) ||| (zif (bso (va_up (S.2.1 4) (bpl x (zn i2) 0) (1 + k)) n (fun q => S.2.2.1 3 (40 * r + q)) nm) (2 ^ (1 + k)) 0)))), (0, .ref (ad 0)), (1, .int (nI x)), (2, .int i2), (3, .int (nI 0)), (4, .int (nI n)), (5, .int (nI r)), (6, .int (nI nm))]) hx hb dX3_who_223 hl (k := 8) rfl (nI_add (1 + k) 1) (by decide) rfl (fun ls hl => ?_)
                              refine lv_goto (tgt := 130) hx hb dX3_who_226 (by decide) ?_
                              have hJ : True := trivial
                              exact ih_130 (by omega) _ _ _ _ _ ⟨va_up (S.2.1 4) (bpl x (zn i2) 0) (1 + k), L1, P1, rfl, rfl, hP, hD, hS, lv_sub hl [2, 3, 4, 5, 6, 7, 8, 1, 0] rfl, hJ⟩
                            · refine zi_eqB (tgt := 219) hx hb dX3_who_209 (by decide) (fun c_209 => ?_) (fun c_209 => ?_)
                              · refine lv_iconst (v := nI 0) hx hb dX3_who_219 (by decide) ?_
                                exact jn_209 _ ((congrArg nI (zif_f c_209)).symm)
                              · refine lv_iconst (v := nI 1) hx hb dX3_who_212 (by decide) ?_
                                refine lv_iload hx hb dX3_who_213 (lv_at hl 8 rfl) ?_
                                refine lv_ishl hx hb dX3_who_215 ?_
                                refine zti (zshl1 (a := 1 + k) (by omega)) ?_
                                refine lv_goto (tgt := 220) hx hb dX3_who_216 (by decide) ?_
                                exact jn_209 _ ((congrArg nI (zif_t c_209)).symm)
                          · refine lv_iload_n hx hb dX3_who_158 rfl (lv_at hl 3 rfl) ?_
                            refine zi_ne (tgt := 172) hx hb (by omega) dX3_who_159 (by decide) (fun c_159 => ?_) (fun c_159 => ?_)
                            · omega
                            · refine lv_bipush (v := nI 12) hx hb dX3_who_162 (by decide) ?_
                              refine lv_bipush (v := nI 8) hx hb dX3_who_164 (by decide) ?_
                              refine lv_iload_n hx hb dX3_who_166 rfl (lv_at hl 1 rfl) ?_
                              refine lv_imul hx hb dX3_who_167 ?_
                              refine zti (pk_mul 8 x) ?_
                              refine lv_iadd hx hb dX3_who_168 ?_
                              refine zti (nI_add 12 (8 * x)) ?_
                              refine lv_goto (tgt := 194) hx hb dX3_who_169 (by decide) ?_
                              exact jn_158 _ ((congrArg nI (show bpl x (zn i2) 0 = 12 + 8 * x from by unfold bpl; rfl)).symm)
                    · rw [mW_up (cn := cn) (k := 6) (f := nF F6) (hc6)] at hP
                      rw [mW_up (cn := cn) (k := 6) (f := nF F6) (hc6)] at hD
                      rw [mW_up (cn := va_up cn 6 (nF F6)) (k := 9) (f := nF F9) (hc9)] at hP
                      rw [mW_up (cn := va_up cn 6 (nF F6)) (k := 9) (f := nF F9) (hc9)] at hD
                      rw [mW_up (cn := va_up (va_up cn 6 (nF F6)) 9 (nF F9)) (k := 10) (f := nF F10) (hc10)] at hP
                      rw [mW_up (cn := va_up (va_up cn 6 (nF F6)) 9 (nF F9)) (k := 10) (f := nF F10) (hc10)] at hD
                      have hP : va_P g.1 zCL (mW g ad (va_up fi 0 (nI (zlk (S.2.2.1 1) (S.2.1 2) r nm))) (va_up (va_up (va_up cn 6 (nF F6)) 9 (nF F9)) 10 (nF F10)) xl) _ := hP
                      have hD : va_D (mA ad s.heap.size) (mW g ad (va_up fi 0 (nI (zlk (S.2.2.1 1) (S.2.1 2) r nm))) (va_up (va_up (va_up cn 6 (nF F6)) 9 (nF F9)) 10 (nF F10)) xl) := hD
                      exact ⟨F6, F9, F10, rfl, rfl, hP, hD, hS, lv_sub hl [3, 4, 5, 6, 7, 8, 9, 1, 0] rfl, trivial⟩
                · exact absurd rfl c_110
              · have hne := zres_ne hll (zlk_le (S.2.2.1 1) (S.2.1 2) r nm)
                refine lv_istore (lv' := [(7, .int (zres (zlk (S.2.2.1 1) (S.2.1 2) r nm))), (0, .ref (ad 0)), (1, .int (nI x)), (2, .int i2), (3, .int (nI 0)), (4, .int (nI n)), (5, .int (nI r)), (6, .int (nI nm))]) hx hb dX3_who_106 hl (by decide) rfl (fun ls hl => ?_)
                refine lv_iload hx hb dX3_who_108 (lv_at hl 0 rfl) ?_
                refine lv_if_eq (tgt := 116) hx hb dX3_who_110 (by decide) (fun c_110 => ?_) (fun c_110 => ?_)
                · exact absurd c_110 hne
                · refine lv_iload hx hb dX3_who_113 (lv_at hl 0 rfl) ?_
                  exact W.iret (v := zres (zlk (S.2.2.1 1) (S.2.1 2) r nm)) hx hb hr (fun t ht hW => ⟨⟨zres (zlk (S.2.2.1 1) (S.2.1 2) r nm), (va_up fi 0 (nI (zlk (S.2.2.1 1) (S.2.1 2) r nm)), cn, xl), rfl, (by unfold opWho; (try rw [zn_nI (n := x) (by omega)]); (try rw [zn_nI (n := n) (by omega)]); (try rw [zn_nI (n := r) (by omega)]); (try rw [zn_nI (n := nm) (by omega)]); (try rw [zn_nI (n := 0) (by omega)]); rw [zif_t c_5, zif_t c_17, zif_t c_30, zif_t c_38, zif_t c_51, zif_f (show ¬ (0 < 0 ∧ ¬ zIn i2 0 ((zif (0 = 1) (S.2.1 4 3) (bwl (S.2.1 4) x) : Nat) - 1 : Int)) from fun z => absurd z.1 (by omega)), zif_f hll]; exact ⟨rfl, ⟨rfl, hf8, hf12, hf19, hf29, hc1, hc2, hc3, hc4, hc7, hc11, hc26, hc27, hc28⟩, ⟨_, _, _, _, _, _, _, _, _, hc5, hc6, hc9, hc10, hc24, hc25, hc21, hc22, hf23⟩⟩), by rw [ht]; exact hP, hD⟩, hS.F ht⟩) hS.2.2 dX3_who_115
            · refine lv_iload_n hx hb dX3_who_61 rfl (lv_at hl 2 rfl) ?_
              refine lv_i2l hx hb dX3_who_62 rfl ?_
              refine lv_lconst (v := lN 0) hx hb dX3_who_63 (by decide) ?_
              refine zjoin (ls := ls) (α := Int32) (fun v9 => v9 = nI (zif (w = 1) (S.2.1 4 3) (bwl (S.2.1 4) x))) (fun v9 => .int v9 :: [.long (lN 0), .long i2.toInt64]) 86 (fun v9 hv => ?_) (fun jn_64 => ?_)
              · subst hv
                refine lv_iconst (v := nI 1) hx hb dX3_who_86 (by decide) ?_
                refine lv_isub hx hb dX3_who_87 ?_
                refine lv_i2l hx hb dX3_who_88 rfl ?_
                refine vp_callSi (W.runS (As := [.long i2.toInt64, .long (lN 0), .long (((nI (zif (w = 1) (S.2.1 4 3) (bwl (S.2.1 4) x))) - (nI 1)).toInt64)]) (rest := []) ⟨hx, hb, hml, hown, hts⟩ (m_X3_in l g i2.toInt64 (lN 0) (((nI (zif (w = 1) (S.2.1 4 3) (bwl (S.2.1 4) x))) - (nI 1)).toInt64)) (va_cwS 3 hts (lw_S q1397 q1398 q69 q1399) rfl rfl rfl hdS_X3_in ⟨Nat.le_of_ble_eq_true rfl, Nat.le_of_ble_eq_true rfl⟩) (zpreS hK hN trivial) rfl rfl hl.1 rfl (lv_room (Nat.le_of_ble_eq_true rfl)) dX3_who_89 ⟨Nat.le_of_ble_eq_true rfl, Nat.le_of_ble_eq_true rfl⟩) (fun r_89 hr_89 => ?_)
                subst hr_89
                refine zti (zB_c (zIn_w i2 ((nI (zif (w = 1) (S.2.1 4 3) (bwl (S.2.1 4) x))) - (nI 1)) (by omega))) ?_
                refine zti (show zB (zIn i2 0 ((nI (zif (w = 1) (S.2.1 4 3) (bwl (S.2.1 4) x))) - (nI 1)).toInt) = zB (zIn i2 0 (((zif (w = 1) (S.2.1 4 3) (bwl (S.2.1 4) x)) : Nat) - 1 : Int)) from by rw [show nI 1 = (1 : Int32) from rfl, zpred (by omega)]) ?_
                refine zi_neB (tgt := 98) hx hb dX3_who_92 (by decide) (fun c_92 => ?_) (fun c_92 => ?_)
                · obtain ⟨i, rfl, hu_i, hv_i⟩ := zIn_ex c_92 (by omega)
                  have hw0 : 0 < w := by omega
                  by_cases hw1 : w = 1
                  · rw [zif_t hw1] at hu_i
                    refine lv_aload_n hx hb dX3_who_98 rfl (lv_at hl 0 rfl) ?_
                    refine lv_iload hx hb dX3_who_99 (lv_at hl 5 rfl) ?_
                    refine lv_iload hx hb dX3_who_101 (lv_at hl 6 rfl) ?_
                    have hle_103 := hS.1
                    refine va_calli (va_runV (As := [.int (nI r), .int (nI nm)]) (rest := []) ⟨hx, hb, hml, hown, hts⟩ (m_X3_lacks l g ad fi cn xl _ (S.2.2.1 1) (S.2.1 2) hc1 hc2 r nm (by omega) (by omega) (by omega)) (cwV 2 hts (lw_V q1489 q1491 qs41 q69 q1492) rfl rfl rfl hdV_X3_lacks ⟨Nat.le_of_ble_eq_true rfl, Nat.le_of_ble_eq_true rfl⟩) (zpreV hK hN (va_recv hK hP (ci := 3) (q0 := 0) rfl rfl) ⟨rfl, hP, hD.weaken (fun _ _ _ _ => trivial)⟩) rfl rfl hl.1 rfl (lv_room (Nat.le_of_ble_eq_true rfl)) dX3_who_103 ⟨Nat.le_of_ble_eq_true rfl, Nat.le_of_ble_eq_true rfl⟩) hS (fun q _ h => mA_le hS.1 q h) (mA_le hS.1) (fun r_103 u t H locs ht hvm hw_103 hB hzz hkk hS => ?_)
                    obtain ⟨hP, hD⟩ := hB
                    rw [ht] at hP
                    have hD := hD.weaken (fun _ _ _ h => mA_le hle_103 _ h)
                    obtain ⟨rfl, rfl⟩ := hw_103
                    have hP : va_P g.1 zCL (mW g ad (va_up fi 0 (nI (zlk (S.2.2.1 1) (S.2.1 2) r nm))) cn xl) _ := hP
                    have hD : va_D (mA ad s.heap.size) (mW g ad (va_up fi 0 (nI (zlk (S.2.2.1 1) (S.2.1 2) r nm))) cn xl) := hD
                    by_cases hll : zlk (S.2.2.1 1) (S.2.1 2) r nm = 0
                    · refine zti (show _ = nI 0 from by rw [hll, zres_0]) ?_
                      refine lv_istore (lv' := [(7, .int (nI 0)), (0, .ref (ad 0)), (1, .int (nI x)), (2, .int (nI i)), (3, .int (nI w)), (4, .int (nI n)), (5, .int (nI r)), (6, .int (nI nm))]) hx hb dX3_who_106 hl (by decide) rfl (fun ls hl => ?_)
                      refine lv_iload hx hb dX3_who_108 (lv_at hl 0 rfl) ?_
                      refine zi_eq (tgt := 116) hx hb (by omega) dX3_who_110 (by decide) (fun c_110 => ?_) (fun c_110 => ?_)
                      · refine lv_iconst (v := nI 0) hx hb dX3_who_116 (by decide) ?_
                        refine lv_istore (lv' := [(8, .int (nI 0)), (7, .int (nI 0)), (0, .ref (ad 0)), (1, .int (nI x)), (2, .int (nI i)), (3, .int (nI w)), (4, .int (nI n)), (5, .int (nI r)), (6, .int (nI nm))]) hx hb dX3_who_117 hl (by decide) rfl (fun ls hl => ?_)
                        refine lv_iload_n hx hb dX3_who_119 rfl (lv_at hl 5 rfl) ?_
                        refine zi_ne (tgt := 127) hx hb (by omega) dX3_who_120 (by decide) (fun c_120 => ?_) (fun c_120 => ?_)
                        · refine lv_iconst (v := nI 0) hx hb dX3_who_127 (by decide) ?_
                          refine lv_istore (lv' := [(9, .int (nI 0)), (8, .int (nI 0)), (7, .int (nI 0)), (0, .ref (ad 0)), (1, .int (nI x)), (2, .int (nI i)), (3, .int (nI w)), (4, .int (nI n)), (5, .int (nI r)), (6, .int (nI nm))]) hx hb dX3_who_128 hl (by decide) rfl (fun ls hl => ?_)
                          refine zloopW (head := 130) (S.2.1 4 0) (fun k H locs cells slots ls => ∃ (T0 : Nat → Nat) (L0 : Nat → Nat) (P0 : Nat → Nat), cells = 0 ∧ slots = 0 ∧ va_P g.1 zCL (mW g ad (va_up fi 0 (nI (zlk (S.2.2.1 1) (S.2.1 2) r nm))) (va_up (va_up (va_up cn 6 (nF T0)) 9 (nF L0)) 10 (nF P0)) xl) H ∧ va_D (mA ad s.heap.size) (mW g ad (va_up fi 0 (nI (zlk (S.2.2.1 1) (S.2.1 2) r nm))) (va_up (va_up (va_up cn 6 (nF T0)) 9 (nF L0)) 10 (nF P0)) xl) ∧ va_S (mA ad s.heap.size) s.heap H locs ∧ lv_has ls 10 [(0, .ref (ad 0)), (1, .int (nI x)), (2, .int (nI i)), (3, .int (nI w)), (4, .int (nI n)), (5, .int (nI r)), (6, .int (nI nm)), (8, .int (nI (bwho (S.2.1 4) x i w n (fun q => S.2.2.1 3 (40 * r + q)) nm 0 k))), (9, .int (nI (0 + k)))] ∧ True) (fun k hv_k ih_130 H locs cells slots ls hI => ?_) 0 (Nat.zero_le _) ?_
                          · obtain ⟨T0, L0, P0, rfl, rfl, hP, hD, hS, hl, hI_130⟩ := hI
                            refine lv_iload hx hb dX3_who_130 (lv_at hl 8 rfl) ?_
                            refine lv_iload_n hx hb dX3_who_132 rfl (lv_at hl 3 rfl) ?_
                            refine zi_ne (tgt := 141) hx hb (by omega) dX3_who_133 (by decide) (fun c_133 => ?_) (fun c_133 => ?_)
                            · refine lv_aload_n hx hb dX3_who_141 rfl (lv_at hl 0 rfl) ?_
                              refine va_get (D := g.1) (ci := 3) (v := .ref (ad 4)) (C := RX3) (T := TX3) (N := 30) hx hb hts in_X3 hown hK hP 0 rfl rfl 4 (by decide) (hts _ q1301) (fun _ h9 => h9) rfl dX3_who_142 ?_
                              refine lv_iconst (v := nI 0) hx hb dX3_who_145 (by decide) ?_
                              refine zald hx hb hK hP 4 0 rfl rfl (j := 0) (by omega) (by decide) dX3_who_146 ?_
                              refine zti (congrFun hc4 _) ?_
                              refine zti (show (nF (S.2.1 4)) 0 = nI ((S.2.1 4) 0) from rfl) ?_
                              refine zc_ge (tgt := 229) hx hb (by omega) (by omega) dX3_who_147 (by decide) (fun c_147 => ?_) (fun c_147 => ?_)
                              · obtain rfl : S.2.1 4 0 = k := by omega
                                refine lv_iload hx hb dX3_who_229 (lv_at hl 7 rfl) ?_
                                exact W.iret (v := nI (bwho (S.2.1 4) x i w n (fun q => S.2.2.1 3 (40 * r + q)) nm 0 (S.2.1 4 0))) hx hb hr (fun t ht hW => ⟨⟨nI (bwho (S.2.1 4) x i w n (fun q => S.2.2.1 3 (40 * r + q)) nm 0 (S.2.1 4 0)), (va_up fi 0 (nI (zlk (S.2.2.1 1) (S.2.1 2) r nm)), va_up (va_up (va_up cn 6 (nF T0)) 9 (nF L0)) 10 (nF P0), xl), rfl, (by unfold opWho; (try rw [zn_nI (n := x) (by omega)]); (try rw [zn_nI (n := w) (by omega)]); (try rw [zn_nI (n := n) (by omega)]); (try rw [zn_nI (n := r) (by omega)]); (try rw [zn_nI (n := nm) (by omega)]); (try rw [zn_nI (n := i) (by omega)]); (try rw [zn_nI (n := w) (by omega)]); rw [zif_t c_5, zif_t c_17, zif_t c_30, zif_t c_38, zif_t c_51, zif_f (show ¬ (0 < w ∧ ¬ zIn (nI i) 0 ((zif (w = 1) (S.2.1 4 3) (bwl (S.2.1 4) x) : Nat) - 1 : Int)) from fun z => z.2 c_92), zif_t hll, zif_f (show ¬ w = 0 from by omega)]; exact ⟨rfl, ⟨(congrArg nI hll), hf8, hf12, hf19, hf29, hc1, hc2, hc3, hc4, hc7, hc11, hc26, hc27, hc28⟩, ⟨_, _, _, _, _, _, _, _, _, hc5, rfl, rfl, rfl, hc24, hc25, hc21, hc22, hf23⟩⟩), by rw [ht]; exact hP, hD⟩, hS.F ht⟩) hS.2.2 dX3_who_231
                              · refine lv_aload_n hx hb dX3_who_150 rfl (lv_at hl 0 rfl) ?_
                                have hle_151 := hS.1
                                refine va_callv (va_runV (As := []) (rest := []) ⟨hx, hb, hml, hown, hts⟩ (m_X3_layThen l g ad (va_up fi 0 (nI (zlk (S.2.2.1 1) (S.2.1 2) r nm))) (va_up (va_up (va_up cn 6 (nF T0)) 9 (nF L0)) 10 (nF P0)) xl _ (S.2.1 4) T0 hc4 rfl) (cwV 0 hts (lw_V q1645 q1647 qs53 q69 q1648) rfl rfl rfl hdV_X3_layThen ⟨Nat.le_of_ble_eq_true rfl, Nat.le_of_ble_eq_true rfl⟩) (zpreV hK hN (va_recv hK hP (ci := 3) (q0 := 0) rfl rfl) ⟨rfl, hP, hD.weaken (fun _ _ _ _ => trivial)⟩) rfl rfl hl.1 rfl (lv_room (Nat.le_of_ble_eq_true rfl)) dX3_who_151 ⟨Nat.le_of_ble_eq_true rfl, Nat.le_of_ble_eq_true rfl⟩) hS (fun q _ h => mA_le hS.1 q h) (mA_le hS.1) (fun u t H locs ht hvm hw_151 hB hzz hkk hS => ?_)
                                obtain ⟨hP, hD⟩ := hB
                                rw [ht] at hP
                                have hD := hD.weaken (fun _ _ _ h => mA_le hle_151 _ h)
                                obtain ⟨_, rfl⟩ := hw_151
                                have hP : va_P g.1 zCL (mW g ad (va_up fi 0 (nI (zlk (S.2.2.1 1) (S.2.1 2) r nm))) (va_up (va_up (va_up cn 6 (nF (S.2.1 4))) 9 (nF L0)) 10 (nF P0)) xl) _ := hP
                                have hD : va_D (mA ad s.heap.size) (mW g ad (va_up fi 0 (nI (zlk (S.2.2.1 1) (S.2.1 2) r nm))) (va_up (va_up (va_up cn 6 (nF (S.2.1 4))) 9 (nF L0)) 10 (nF P0)) xl) := hD
                                refine lv_aload_n hx hb dX3_who_154 rfl (lv_at hl 0 rfl) ?_
                                refine va_get (D := g.1) (ci := 3) (v := .ref (ad 6)) (C := RX3) (T := TX3) (N := 30) hx hb hts in_X3 hown hK hP 0 rfl rfl 6 (by decide) (hts _ q1303) (fun _ h9 => h9) rfl dX3_who_155 ?_
                                refine zjoin (ls := ls) (α := Int32) (fun v9 => v9 = nI (bpl x i w)) (fun v9 => .int v9 :: [.ref (ad 6)]) 194 (fun v9 hv => ?_) (fun jn_158 => ?_)
                                · subst hv
                                  have hpl : bpl x i w = 4 + i := by unfold bpl; rw [if_neg (by omega), if_pos hw1]
                                  have hBT : bOK (va_up (S.2.1 4) (bpl x i w) (0 + k)) := by rw [hpl]; exact hB.trRow (by omega) (by omega)
                                  refine lv_iload hx hb dX3_who_194 (lv_at hl 8 rfl) ?_
                                  refine zast (f := nF (S.2.1 4)) hx hb hK hP hD hS 6 0 rfl rfl (j := bpl x i w) (by omega) (by decide) dX3_who_196 (fun H locs hP hD hS => ?_)
                                  rw [nF_up] at hP hD
                                  have hP : va_P g.1 zCL (mW g ad (va_up fi 0 (nI (zlk (S.2.2.1 1) (S.2.1 2) r nm))) (va_up (va_up (va_up cn 6 (nF (va_up (S.2.1 4) (bpl x i w) (0 + k)))) 9 (nF L0)) 10 (nF P0)) xl) _ := hP
                                  have hD : va_D (mA ad s.heap.size) (mW g ad (va_up fi 0 (nI (zlk (S.2.2.1 1) (S.2.1 2) r nm))) (va_up (va_up (va_up cn 6 (nF (va_up (S.2.1 4) (bpl x i w) (0 + k)))) 9 (nF L0)) 10 (nF P0)) xl) := hD
                                  refine lv_iload hx hb dX3_who_197 (lv_at hl 7 rfl) ?_
                                  refine lv_aload_n hx hb dX3_who_199 rfl (lv_at hl 0 rfl) ?_
                                  refine lv_iload hx hb dX3_who_200 (lv_at hl 4 rfl) ?_
                                  refine lv_iload hx hb dX3_who_202 (lv_at hl 5 rfl) ?_
                                  refine lv_iload hx hb dX3_who_204 (lv_at hl 6 rfl) ?_
                                  have hle_206 := hS.1
                                  refine va_calli (va_runV (As := [.int (nI n), .int (nI r), .int (nI nm)]) (rest := [.int (nI (bwho (S.2.1 4) x i w n (fun q => S.2.2.1 3 (40 * r + q)) nm 0 k))]) ⟨hx, hb, hml, hown, hts⟩ (m_X3_isSo l g ad (va_up fi 0 (nI (zlk (S.2.2.1 1) (S.2.1 2) r nm))) (va_up (va_up (va_up cn 6 (nF (va_up (S.2.1 4) (bpl x i w) (0 + k)))) 9 (nF L0)) 10 (nF P0)) xl _ (va_up (S.2.1 4) (bpl x i w) (0 + k)) L0 P0 (S.2.2.1 3) rfl rfl rfl hc3 hBT n r nm (by omega) (by omega) (by omega)) (cwV 3 hts (lw_V q1649 q1651 qs54 q69 q1652) rfl rfl rfl hdV_X3_isSo ⟨Nat.le_of_ble_eq_true rfl, Nat.le_of_ble_eq_true rfl⟩) (zpreV hK hN (va_recv hK hP (ci := 3) (q0 := 0) rfl rfl) ⟨rfl, hP, hD.weaken (fun _ _ _ _ => trivial)⟩) rfl rfl hl.1 rfl (lv_room (Nat.le_of_ble_eq_true rfl)) dX3_who_206 ⟨Nat.le_of_ble_eq_true rfl, Nat.le_of_ble_eq_true rfl⟩) hS (fun q _ h => mA_le hS.1 q h) (mA_le hS.1) (fun r_206 u t H locs ht hvm hw_206 hB hzz hkk hS => ?_)
                                  obtain ⟨hP, hD⟩ := hB
                                  rw [ht] at hP
                                  have hD := hD.weaken (fun _ _ _ h => mA_le hle_206 _ h)
                                  obtain ⟨rfl, L1, P1, rfl⟩ := hw_206
                                  have hP : va_P g.1 zCL (mW g ad (va_up fi 0 (nI (zlk (S.2.2.1 1) (S.2.1 2) r nm))) (va_up (va_up (va_up cn 6 (nF (va_up (S.2.1 4) (bpl x i w) (0 + k)))) 9 (nF L1)) 10 (nF P1)) xl) _ := hP
                                  have hD : va_D (mA ad s.heap.size) (mW g ad (va_up fi 0 (nI (zlk (S.2.2.1 1) (S.2.1 2) r nm))) (va_up (va_up (va_up cn 6 (nF (va_up (S.2.1 4) (bpl x i w) (0 + k)))) 9 (nF L1)) 10 (nF P1)) xl) := hD
                                  refine zjoin (ls := ls) (α := Int32) (fun v9 => v9 = nI (zif (bso (va_up (S.2.1 4) (bpl x i w) (0 + k)) n (fun q => S.2.2.1 3 (40 * r + q)) nm) (2 ^ (0 + k)) 0)) (fun v9 => .int v9 :: [.int (nI (bwho (S.2.1 4) x i w n (fun q => S.2.2.1 3 (40 * r + q)) nm 0 k))]) 220 (fun v9 hv => ?_) (fun jn_209 => ?_)
                                  · subst hv
                                    refine lv_ior hx hb dX3_who_220 ?_
                                    refine zti (z_or (bwho (S.2.1 4) x i w n (fun q => S.2.2.1 3 (40 * r + q)) nm 0 k) (zif (bso (va_up (S.2.1 4) (bpl x i w) (0 + k)) n (fun q => S.2.2.1 3 (40 * r + q)) nm) (2 ^ (0 + k)) 0)) ?_
                                    refine lv_istore (lv' := [(8, .int (nI ((bwho (S.2.1 4) x i w n (fun q => S.2.2.1 3 (40 * r + q)) nm 0 k) ||| (zif (bso (va_up (S.2.1 4) (bpl x i w) (0 + k)) n (fun q => S.2.2.1 3 (40 * r + q)) nm) (2 ^ (0 + k)) 0)))), (0, .ref (ad 0)), (1, .int (nI x)), (2, .int (nI i)), (3, .int (nI w)), (4, .int (nI n)), (5, .int (nI r)), (6, .int (nI nm)), (9, .int (nI (0 + k)))]) hx hb dX3_who_221 hl (by decide) rfl (fun ls hl => ?_)
                                    refine lv_iinc (v := nI (0 + k + 1)) (lv' := [(9, .int (nI (0 + k + 1))), (8, .int (nI ((bwho (S.2.1 4) x i w n (fun q => S.2.2.1 3 (40 * r + q)) nm 0 k) ||| (zif (bso (va_up (S.2.1 4) (bpl x i w) (0 + k)) n (fun q => S.2.2.1 3 (40 * r + q)) nm) (2 ^ (0 + k)) 0)))), (0, .ref (ad 0)), (1, .int (nI x)), (2, .int (nI i)), (3, .int (nI w)), (4, .int (nI n)), (5, .int (nI r)), (6, .int (nI nm))]) hx hb dX3_who_223 hl (k := 8) rfl (nI_add (0 + k) 1) (by decide) rfl (fun ls hl => ?_)
                                    refine lv_goto (tgt := 130) hx hb dX3_who_226 (by decide) ?_
                                    have hJ : True := trivial
                                    exact ih_130 (by omega) _ _ _ _ _ ⟨va_up (S.2.1 4) (bpl x i w) (0 + k), L1, P1, rfl, rfl, hP, hD, hS, lv_sub hl [2, 3, 4, 5, 6, 7, 8, 1, 0] rfl, hJ⟩
                                  · refine zi_eqB (tgt := 219) hx hb dX3_who_209 (by decide) (fun c_209 => ?_) (fun c_209 => ?_)
                                    · refine lv_iconst (v := nI 0) hx hb dX3_who_219 (by decide) ?_
                                      exact jn_209 _ ((congrArg nI (zif_f c_209)).symm)
                                    · refine lv_iconst (v := nI 1) hx hb dX3_who_212 (by decide) ?_
                                      refine lv_iload hx hb dX3_who_213 (lv_at hl 8 rfl) ?_
                                      refine lv_ishl hx hb dX3_who_215 ?_
                                      refine zti (zshl1 (a := 0 + k) (by omega)) ?_
                                      refine lv_goto (tgt := 220) hx hb dX3_who_216 (by decide) ?_
                                      exact jn_209 _ ((congrArg nI (zif_t c_209)).symm)
                                · refine lv_iload_n hx hb dX3_who_158 rfl (lv_at hl 3 rfl) ?_
                                  refine zi_ne (tgt := 172) hx hb (by omega) dX3_who_159 (by decide) (fun c_159 => ?_) (fun c_159 => ?_)
                                  · refine lv_iload_n hx hb dX3_who_172 rfl (lv_at hl 3 rfl) ?_
                                    refine lv_iconst (v := nI 1) hx hb dX3_who_173 (by decide) ?_
                                    refine zc_ne (tgt := 183) hx hb (by omega) (by omega) dX3_who_174 (by decide) (fun c_174 => ?_) (fun c_174 => ?_)
                                    · omega
                                    · refine lv_iconst (v := nI 4) hx hb dX3_who_177 (by decide) ?_
                                      refine lv_iload_n hx hb dX3_who_178 rfl (lv_at hl 2 rfl) ?_
                                      refine lv_iadd hx hb dX3_who_179 ?_
                                      refine zti (nI_add 4 i) ?_
                                      refine lv_goto (tgt := 194) hx hb dX3_who_180 (by decide) ?_
                                      exact jn_158 _ ((congrArg nI (show bpl x i w = 4 + i from by unfold bpl; rw [if_neg (by omega), if_pos hw1])).symm)
                                  · omega
                            · omega
                          · rw [mW_up (cn := cn) (k := 6) (f := nF F6) (hc6)] at hP
                            rw [mW_up (cn := cn) (k := 6) (f := nF F6) (hc6)] at hD
                            rw [mW_up (cn := va_up cn 6 (nF F6)) (k := 9) (f := nF F9) (hc9)] at hP
                            rw [mW_up (cn := va_up cn 6 (nF F6)) (k := 9) (f := nF F9) (hc9)] at hD
                            rw [mW_up (cn := va_up (va_up cn 6 (nF F6)) 9 (nF F9)) (k := 10) (f := nF F10) (hc10)] at hP
                            rw [mW_up (cn := va_up (va_up cn 6 (nF F6)) 9 (nF F9)) (k := 10) (f := nF F10) (hc10)] at hD
                            have hP : va_P g.1 zCL (mW g ad (va_up fi 0 (nI (zlk (S.2.2.1 1) (S.2.1 2) r nm))) (va_up (va_up (va_up cn 6 (nF F6)) 9 (nF F9)) 10 (nF F10)) xl) _ := hP
                            have hD : va_D (mA ad s.heap.size) (mW g ad (va_up fi 0 (nI (zlk (S.2.2.1 1) (S.2.1 2) r nm))) (va_up (va_up (va_up cn 6 (nF F6)) 9 (nF F9)) 10 (nF F10)) xl) := hD
                            exact ⟨F6, F9, F10, rfl, rfl, hP, hD, hS, lv_sub hl [3, 4, 5, 6, 7, 8, 9, 1, 0] rfl, trivial⟩
                        · omega
                      · exact absurd rfl c_110
                    · have hne := zres_ne hll (zlk_le (S.2.2.1 1) (S.2.1 2) r nm)
                      refine lv_istore (lv' := [(7, .int (zres (zlk (S.2.2.1 1) (S.2.1 2) r nm))), (0, .ref (ad 0)), (1, .int (nI x)), (2, .int (nI i)), (3, .int (nI w)), (4, .int (nI n)), (5, .int (nI r)), (6, .int (nI nm))]) hx hb dX3_who_106 hl (by decide) rfl (fun ls hl => ?_)
                      refine lv_iload hx hb dX3_who_108 (lv_at hl 0 rfl) ?_
                      refine lv_if_eq (tgt := 116) hx hb dX3_who_110 (by decide) (fun c_110 => ?_) (fun c_110 => ?_)
                      · exact absurd c_110 hne
                      · refine lv_iload hx hb dX3_who_113 (lv_at hl 0 rfl) ?_
                        exact W.iret (v := zres (zlk (S.2.2.1 1) (S.2.1 2) r nm)) hx hb hr (fun t ht hW => ⟨⟨zres (zlk (S.2.2.1 1) (S.2.1 2) r nm), (va_up fi 0 (nI (zlk (S.2.2.1 1) (S.2.1 2) r nm)), cn, xl), rfl, (by unfold opWho; (try rw [zn_nI (n := x) (by omega)]); (try rw [zn_nI (n := w) (by omega)]); (try rw [zn_nI (n := n) (by omega)]); (try rw [zn_nI (n := r) (by omega)]); (try rw [zn_nI (n := nm) (by omega)]); (try rw [zn_nI (n := i) (by omega)]); rw [zif_t c_5, zif_t c_17, zif_t c_30, zif_t c_38, zif_t c_51, zif_f (show ¬ (0 < w ∧ ¬ zIn (nI i) 0 ((zif (w = 1) (S.2.1 4 3) (bwl (S.2.1 4) x) : Nat) - 1 : Int)) from fun z => z.2 c_92), zif_f hll]; exact ⟨rfl, ⟨rfl, hf8, hf12, hf19, hf29, hc1, hc2, hc3, hc4, hc7, hc11, hc26, hc27, hc28⟩, ⟨_, _, _, _, _, _, _, _, _, hc5, hc6, hc9, hc10, hc24, hc25, hc21, hc22, hf23⟩⟩), by rw [ht]; exact hP, hD⟩, hS.F ht⟩) hS.2.2 dX3_who_115
                  · rw [zif_f hw1] at hu_i
                    refine lv_aload_n hx hb dX3_who_98 rfl (lv_at hl 0 rfl) ?_
                    refine lv_iload hx hb dX3_who_99 (lv_at hl 5 rfl) ?_
                    refine lv_iload hx hb dX3_who_101 (lv_at hl 6 rfl) ?_
                    have hle_103 := hS.1
                    refine va_calli (va_runV (As := [.int (nI r), .int (nI nm)]) (rest := []) ⟨hx, hb, hml, hown, hts⟩ (m_X3_lacks l g ad fi cn xl _ (S.2.2.1 1) (S.2.1 2) hc1 hc2 r nm (by omega) (by omega) (by omega)) (cwV 2 hts (lw_V q1489 q1491 qs41 q69 q1492) rfl rfl rfl hdV_X3_lacks ⟨Nat.le_of_ble_eq_true rfl, Nat.le_of_ble_eq_true rfl⟩) (zpreV hK hN (va_recv hK hP (ci := 3) (q0 := 0) rfl rfl) ⟨rfl, hP, hD.weaken (fun _ _ _ _ => trivial)⟩) rfl rfl hl.1 rfl (lv_room (Nat.le_of_ble_eq_true rfl)) dX3_who_103 ⟨Nat.le_of_ble_eq_true rfl, Nat.le_of_ble_eq_true rfl⟩) hS (fun q _ h => mA_le hS.1 q h) (mA_le hS.1) (fun r_103 u t H locs ht hvm hw_103 hB hzz hkk hS => ?_)
                    obtain ⟨hP, hD⟩ := hB
                    rw [ht] at hP
                    have hD := hD.weaken (fun _ _ _ h => mA_le hle_103 _ h)
                    obtain ⟨rfl, rfl⟩ := hw_103
                    have hP : va_P g.1 zCL (mW g ad (va_up fi 0 (nI (zlk (S.2.2.1 1) (S.2.1 2) r nm))) cn xl) _ := hP
                    have hD : va_D (mA ad s.heap.size) (mW g ad (va_up fi 0 (nI (zlk (S.2.2.1 1) (S.2.1 2) r nm))) cn xl) := hD
                    by_cases hll : zlk (S.2.2.1 1) (S.2.1 2) r nm = 0
                    · refine zti (show _ = nI 0 from by rw [hll, zres_0]) ?_
                      refine lv_istore (lv' := [(7, .int (nI 0)), (0, .ref (ad 0)), (1, .int (nI x)), (2, .int (nI i)), (3, .int (nI w)), (4, .int (nI n)), (5, .int (nI r)), (6, .int (nI nm))]) hx hb dX3_who_106 hl (by decide) rfl (fun ls hl => ?_)
                      refine lv_iload hx hb dX3_who_108 (lv_at hl 0 rfl) ?_
                      refine zi_eq (tgt := 116) hx hb (by omega) dX3_who_110 (by decide) (fun c_110 => ?_) (fun c_110 => ?_)
                      · refine lv_iconst (v := nI 0) hx hb dX3_who_116 (by decide) ?_
                        refine lv_istore (lv' := [(8, .int (nI 0)), (7, .int (nI 0)), (0, .ref (ad 0)), (1, .int (nI x)), (2, .int (nI i)), (3, .int (nI w)), (4, .int (nI n)), (5, .int (nI r)), (6, .int (nI nm))]) hx hb dX3_who_117 hl (by decide) rfl (fun ls hl => ?_)
                        refine lv_iload_n hx hb dX3_who_119 rfl (lv_at hl 5 rfl) ?_
                        refine zi_ne (tgt := 127) hx hb (by omega) dX3_who_120 (by decide) (fun c_120 => ?_) (fun c_120 => ?_)
                        · refine lv_iconst (v := nI 0) hx hb dX3_who_127 (by decide) ?_
                          refine lv_istore (lv' := [(9, .int (nI 0)), (8, .int (nI 0)), (7, .int (nI 0)), (0, .ref (ad 0)), (1, .int (nI x)), (2, .int (nI i)), (3, .int (nI w)), (4, .int (nI n)), (5, .int (nI r)), (6, .int (nI nm))]) hx hb dX3_who_128 hl (by decide) rfl (fun ls hl => ?_)
                          refine zloopW (head := 130) (S.2.1 4 0) (fun k H locs cells slots ls => ∃ (T0 : Nat → Nat) (L0 : Nat → Nat) (P0 : Nat → Nat), cells = 0 ∧ slots = 0 ∧ va_P g.1 zCL (mW g ad (va_up fi 0 (nI (zlk (S.2.2.1 1) (S.2.1 2) r nm))) (va_up (va_up (va_up cn 6 (nF T0)) 9 (nF L0)) 10 (nF P0)) xl) H ∧ va_D (mA ad s.heap.size) (mW g ad (va_up fi 0 (nI (zlk (S.2.2.1 1) (S.2.1 2) r nm))) (va_up (va_up (va_up cn 6 (nF T0)) 9 (nF L0)) 10 (nF P0)) xl) ∧ va_S (mA ad s.heap.size) s.heap H locs ∧ lv_has ls 10 [(0, .ref (ad 0)), (1, .int (nI x)), (2, .int (nI i)), (3, .int (nI w)), (4, .int (nI n)), (5, .int (nI r)), (6, .int (nI nm)), (8, .int (nI (bwho (S.2.1 4) x i w n (fun q => S.2.2.1 3 (40 * r + q)) nm 0 k))), (9, .int (nI (0 + k)))] ∧ True) (fun k hv_k ih_130 H locs cells slots ls hI => ?_) 0 (Nat.zero_le _) ?_
                          · obtain ⟨T0, L0, P0, rfl, rfl, hP, hD, hS, hl, hI_130⟩ := hI
                            refine lv_iload hx hb dX3_who_130 (lv_at hl 8 rfl) ?_
                            refine lv_iload_n hx hb dX3_who_132 rfl (lv_at hl 3 rfl) ?_
                            refine zi_ne (tgt := 141) hx hb (by omega) dX3_who_133 (by decide) (fun c_133 => ?_) (fun c_133 => ?_)
                            · refine lv_aload_n hx hb dX3_who_141 rfl (lv_at hl 0 rfl) ?_
                              refine va_get (D := g.1) (ci := 3) (v := .ref (ad 4)) (C := RX3) (T := TX3) (N := 30) hx hb hts in_X3 hown hK hP 0 rfl rfl 4 (by decide) (hts _ q1301) (fun _ h9 => h9) rfl dX3_who_142 ?_
                              refine lv_iconst (v := nI 0) hx hb dX3_who_145 (by decide) ?_
                              refine zald hx hb hK hP 4 0 rfl rfl (j := 0) (by omega) (by decide) dX3_who_146 ?_
                              refine zti (congrFun hc4 _) ?_
                              refine zti (show (nF (S.2.1 4)) 0 = nI ((S.2.1 4) 0) from rfl) ?_
                              refine zc_ge (tgt := 229) hx hb (by omega) (by omega) dX3_who_147 (by decide) (fun c_147 => ?_) (fun c_147 => ?_)
                              · obtain rfl : S.2.1 4 0 = k := by omega
                                refine lv_iload hx hb dX3_who_229 (lv_at hl 7 rfl) ?_
                                exact W.iret (v := nI (bwho (S.2.1 4) x i w n (fun q => S.2.2.1 3 (40 * r + q)) nm 0 (S.2.1 4 0))) hx hb hr (fun t ht hW => ⟨⟨nI (bwho (S.2.1 4) x i w n (fun q => S.2.2.1 3 (40 * r + q)) nm 0 (S.2.1 4 0)), (va_up fi 0 (nI (zlk (S.2.2.1 1) (S.2.1 2) r nm)), va_up (va_up (va_up cn 6 (nF T0)) 9 (nF L0)) 10 (nF P0), xl), rfl, (by unfold opWho; (try rw [zn_nI (n := x) (by omega)]); (try rw [zn_nI (n := w) (by omega)]); (try rw [zn_nI (n := n) (by omega)]); (try rw [zn_nI (n := r) (by omega)]); (try rw [zn_nI (n := nm) (by omega)]); (try rw [zn_nI (n := i) (by omega)]); (try rw [zn_nI (n := w) (by omega)]); rw [zif_t c_5, zif_t c_17, zif_t c_30, zif_t c_38, zif_t c_51, zif_f (show ¬ (0 < w ∧ ¬ zIn (nI i) 0 ((zif (w = 1) (S.2.1 4 3) (bwl (S.2.1 4) x) : Nat) - 1 : Int)) from fun z => z.2 c_92), zif_t hll, zif_f (show ¬ w = 0 from by omega)]; exact ⟨rfl, ⟨(congrArg nI hll), hf8, hf12, hf19, hf29, hc1, hc2, hc3, hc4, hc7, hc11, hc26, hc27, hc28⟩, ⟨_, _, _, _, _, _, _, _, _, hc5, rfl, rfl, rfl, hc24, hc25, hc21, hc22, hf23⟩⟩), by rw [ht]; exact hP, hD⟩, hS.F ht⟩) hS.2.2 dX3_who_231
                              · refine lv_aload_n hx hb dX3_who_150 rfl (lv_at hl 0 rfl) ?_
                                have hle_151 := hS.1
                                refine va_callv (va_runV (As := []) (rest := []) ⟨hx, hb, hml, hown, hts⟩ (m_X3_layThen l g ad (va_up fi 0 (nI (zlk (S.2.2.1 1) (S.2.1 2) r nm))) (va_up (va_up (va_up cn 6 (nF T0)) 9 (nF L0)) 10 (nF P0)) xl _ (S.2.1 4) T0 hc4 rfl) (cwV 0 hts (lw_V q1645 q1647 qs53 q69 q1648) rfl rfl rfl hdV_X3_layThen ⟨Nat.le_of_ble_eq_true rfl, Nat.le_of_ble_eq_true rfl⟩) (zpreV hK hN (va_recv hK hP (ci := 3) (q0 := 0) rfl rfl) ⟨rfl, hP, hD.weaken (fun _ _ _ _ => trivial)⟩) rfl rfl hl.1 rfl (lv_room (Nat.le_of_ble_eq_true rfl)) dX3_who_151 ⟨Nat.le_of_ble_eq_true rfl, Nat.le_of_ble_eq_true rfl⟩) hS (fun q _ h => mA_le hS.1 q h) (mA_le hS.1) (fun u t H locs ht hvm hw_151 hB hzz hkk hS => ?_)
                                obtain ⟨hP, hD⟩ := hB
                                rw [ht] at hP
                                have hD := hD.weaken (fun _ _ _ h => mA_le hle_151 _ h)
                                obtain ⟨_, rfl⟩ := hw_151
                                have hP : va_P g.1 zCL (mW g ad (va_up fi 0 (nI (zlk (S.2.2.1 1) (S.2.1 2) r nm))) (va_up (va_up (va_up cn 6 (nF (S.2.1 4))) 9 (nF L0)) 10 (nF P0)) xl) _ := hP
                                have hD : va_D (mA ad s.heap.size) (mW g ad (va_up fi 0 (nI (zlk (S.2.2.1 1) (S.2.1 2) r nm))) (va_up (va_up (va_up cn 6 (nF (S.2.1 4))) 9 (nF L0)) 10 (nF P0)) xl) := hD
                                refine lv_aload_n hx hb dX3_who_154 rfl (lv_at hl 0 rfl) ?_
                                refine va_get (D := g.1) (ci := 3) (v := .ref (ad 6)) (C := RX3) (T := TX3) (N := 30) hx hb hts in_X3 hown hK hP 0 rfl rfl 6 (by decide) (hts _ q1303) (fun _ h9 => h9) rfl dX3_who_155 ?_
                                refine zjoin (ls := ls) (α := Int32) (fun v9 => v9 = nI (bpl x i w)) (fun v9 => .int v9 :: [.ref (ad 6)]) 194 (fun v9 hv => ?_) (fun jn_158 => ?_)
                                · subst hv
                                  have hpl : bpl x i w = 12 + 8 * x + 4 + i := by unfold bpl; rw [if_neg (by omega), if_neg hw1]
                                  have hBT : bOK (va_up (S.2.1 4) (bpl x i w) (0 + k)) := by rw [hpl]; exact hB.trWord (by omega) (by omega) (by omega)
                                  refine lv_iload hx hb dX3_who_194 (lv_at hl 8 rfl) ?_
                                  refine zast (f := nF (S.2.1 4)) hx hb hK hP hD hS 6 0 rfl rfl (j := bpl x i w) (by omega) (by decide) dX3_who_196 (fun H locs hP hD hS => ?_)
                                  rw [nF_up] at hP hD
                                  have hP : va_P g.1 zCL (mW g ad (va_up fi 0 (nI (zlk (S.2.2.1 1) (S.2.1 2) r nm))) (va_up (va_up (va_up cn 6 (nF (va_up (S.2.1 4) (bpl x i w) (0 + k)))) 9 (nF L0)) 10 (nF P0)) xl) _ := hP
                                  have hD : va_D (mA ad s.heap.size) (mW g ad (va_up fi 0 (nI (zlk (S.2.2.1 1) (S.2.1 2) r nm))) (va_up (va_up (va_up cn 6 (nF (va_up (S.2.1 4) (bpl x i w) (0 + k)))) 9 (nF L0)) 10 (nF P0)) xl) := hD
                                  refine lv_iload hx hb dX3_who_197 (lv_at hl 7 rfl) ?_
                                  refine lv_aload_n hx hb dX3_who_199 rfl (lv_at hl 0 rfl) ?_
                                  refine lv_iload hx hb dX3_who_200 (lv_at hl 4 rfl) ?_
                                  refine lv_iload hx hb dX3_who_202 (lv_at hl 5 rfl) ?_
                                  refine lv_iload hx hb dX3_who_204 (lv_at hl 6 rfl) ?_
                                  have hle_206 := hS.1
                                  refine va_calli (va_runV (As := [.int (nI n), .int (nI r), .int (nI nm)]) (rest := [.int (nI (bwho (S.2.1 4) x i w n (fun q => S.2.2.1 3 (40 * r + q)) nm 0 k))]) ⟨hx, hb, hml, hown, hts⟩ (m_X3_isSo l g ad (va_up fi 0 (nI (zlk (S.2.2.1 1) (S.2.1 2) r nm))) (va_up (va_up (va_up cn 6 (nF (va_up (S.2.1 4) (bpl x i w) (0 + k)))) 9 (nF L0)) 10 (nF P0)) xl _ (va_up (S.2.1 4) (bpl x i w) (0 + k)) L0 P0 (S.2.2.1 3) rfl rfl rfl hc3 hBT n r nm (by omega) (by omega) (by omega)) (cwV 3 hts (lw_V q1649 q1651 qs54 q69 q1652) rfl rfl rfl hdV_X3_isSo ⟨Nat.le_of_ble_eq_true rfl, Nat.le_of_ble_eq_true rfl⟩) (zpreV hK hN (va_recv hK hP (ci := 3) (q0 := 0) rfl rfl) ⟨rfl, hP, hD.weaken (fun _ _ _ _ => trivial)⟩) rfl rfl hl.1 rfl (lv_room (Nat.le_of_ble_eq_true rfl)) dX3_who_206 ⟨Nat.le_of_ble_eq_true rfl, Nat.le_of_ble_eq_true rfl⟩) hS (fun q _ h => mA_le hS.1 q h) (mA_le hS.1) (fun r_206 u t H locs ht hvm hw_206 hB hzz hkk hS => ?_)
                                  obtain ⟨hP, hD⟩ := hB
                                  rw [ht] at hP
                                  have hD := hD.weaken (fun _ _ _ h => mA_le hle_206 _ h)
                                  obtain ⟨rfl, L1, P1, rfl⟩ := hw_206
                                  have hP : va_P g.1 zCL (mW g ad (va_up fi 0 (nI (zlk (S.2.2.1 1) (S.2.1 2) r nm))) (va_up (va_up (va_up cn 6 (nF (va_up (S.2.1 4) (bpl x i w) (0 + k)))) 9 (nF L1)) 10 (nF P1)) xl) _ := hP
                                  have hD : va_D (mA ad s.heap.size) (mW g ad (va_up fi 0 (nI (zlk (S.2.2.1 1) (S.2.1 2) r nm))) (va_up (va_up (va_up cn 6 (nF (va_up (S.2.1 4) (bpl x i w) (0 + k)))) 9 (nF L1)) 10 (nF P1)) xl) := hD
                                  refine zjoin (ls := ls) (α := Int32) (fun v9 => v9 = nI (zif (bso (va_up (S.2.1 4) (bpl x i w) (0 + k)) n (fun q => S.2.2.1 3 (40 * r + q)) nm) (2 ^ (0 + k)) 0)) (fun v9 => .int v9 :: [.int (nI (bwho (S.2.1 4) x i w n (fun q => S.2.2.1 3 (40 * r + q)) nm 0 k))]) 220 (fun v9 hv => ?_) (fun jn_209 => ?_)
                                  · subst hv
                                    refine lv_ior hx hb dX3_who_220 ?_
                                    refine zti (z_or (bwho (S.2.1 4) x i w n (fun q => S.2.2.1 3 (40 * r + q)) nm 0 k) (zif (bso (va_up (S.2.1 4) (bpl x i w) (0 + k)) n (fun q => S.2.2.1 3 (40 * r + q)) nm) (2 ^ (0 + k)) 0)) ?_
                                    refine lv_istore (lv' := [(8, .int (nI ((bwho (S.2.1 4) x i w n (fun q => S.2.2.1 3 (40 * r + q)) nm 0 k) ||| (zif (bso (va_up (S.2.1 4) (bpl x i w) (0 + k)) n (fun q => S.2.2.1 3 (40 * r + q)) nm) (2 ^ (0 + k)) 0)))), (0, .ref (ad 0)), (1, .int (nI x)), (2, .int (nI i)), (3, .int (nI w)), (4, .int (nI n)), (5, .int (nI r)), (6, .int (nI nm)), (9, .int (nI (0 + k)))]) hx hb dX3_who_221 hl (by decide) rfl (fun ls hl => ?_)
                                    refine lv_iinc (v := nI (0 + k + 1)) (lv' := [(9, .int (nI (0 + k + 1))), (8, .int (nI ((bwho (S.2.1 4) x i w n (fun q => S.2.2.1 3 (40 * r + q)) nm 0 k) ||| (zif (bso (va_up (S.2.1 4) (bpl x i w) (0 + k)) n (fun q => S.2.2.1 3 (40 * r + q)) nm) (2 ^ (0 + k)) 0)))), (0, .ref (ad 0)), (1, .int (nI x)), (2, .int (nI i)), (3, .int (nI w)), (4, .int (nI n)), (5, .int (nI r)), (6, .int (nI nm))]) hx hb dX3_who_223 hl (k := 8) rfl (nI_add (0 + k) 1) (by decide) rfl (fun ls hl => ?_)
                                    refine lv_goto (tgt := 130) hx hb dX3_who_226 (by decide) ?_
                                    have hJ : True := trivial
                                    exact ih_130 (by omega) _ _ _ _ _ ⟨va_up (S.2.1 4) (bpl x i w) (0 + k), L1, P1, rfl, rfl, hP, hD, hS, lv_sub hl [2, 3, 4, 5, 6, 7, 8, 1, 0] rfl, hJ⟩
                                  · refine zi_eqB (tgt := 219) hx hb dX3_who_209 (by decide) (fun c_209 => ?_) (fun c_209 => ?_)
                                    · refine lv_iconst (v := nI 0) hx hb dX3_who_219 (by decide) ?_
                                      exact jn_209 _ ((congrArg nI (zif_f c_209)).symm)
                                    · refine lv_iconst (v := nI 1) hx hb dX3_who_212 (by decide) ?_
                                      refine lv_iload hx hb dX3_who_213 (lv_at hl 8 rfl) ?_
                                      refine lv_ishl hx hb dX3_who_215 ?_
                                      refine zti (zshl1 (a := 0 + k) (by omega)) ?_
                                      refine lv_goto (tgt := 220) hx hb dX3_who_216 (by decide) ?_
                                      exact jn_209 _ ((congrArg nI (zif_t c_209)).symm)
                                · refine lv_iload_n hx hb dX3_who_158 rfl (lv_at hl 3 rfl) ?_
                                  refine zi_ne (tgt := 172) hx hb (by omega) dX3_who_159 (by decide) (fun c_159 => ?_) (fun c_159 => ?_)
                                  · refine lv_iload_n hx hb dX3_who_172 rfl (lv_at hl 3 rfl) ?_
                                    refine lv_iconst (v := nI 1) hx hb dX3_who_173 (by decide) ?_
                                    refine zc_ne (tgt := 183) hx hb (by omega) (by omega) dX3_who_174 (by decide) (fun c_174 => ?_) (fun c_174 => ?_)
                                    · refine lv_bipush (v := nI 12) hx hb dX3_who_183 (by decide) ?_
                                      refine lv_bipush (v := nI 8) hx hb dX3_who_185 (by decide) ?_
                                      refine lv_iload_n hx hb dX3_who_187 rfl (lv_at hl 1 rfl) ?_
                                      refine lv_imul hx hb dX3_who_188 ?_
                                      refine zti (pk_mul 8 x) ?_
                                      refine lv_iadd hx hb dX3_who_189 ?_
                                      refine zti (nI_add 12 (8 * x)) ?_
                                      refine lv_iconst (v := nI 4) hx hb dX3_who_190 (by decide) ?_
                                      refine lv_iadd hx hb dX3_who_191 ?_
                                      refine zti (nI_add (12 + 8 * x) 4) ?_
                                      refine lv_iload_n hx hb dX3_who_192 rfl (lv_at hl 2 rfl) ?_
                                      refine lv_iadd hx hb dX3_who_193 ?_
                                      refine zti (nI_add (12 + 8 * x + 4) i) ?_
                                      exact jn_158 _ ((congrArg nI (show bpl x i w = 12 + 8 * x + 4 + i from by unfold bpl; rw [if_neg (by omega), if_neg hw1])).symm)
                                    · omega
                                  · omega
                            · omega
                          · rw [mW_up (cn := cn) (k := 6) (f := nF F6) (hc6)] at hP
                            rw [mW_up (cn := cn) (k := 6) (f := nF F6) (hc6)] at hD
                            rw [mW_up (cn := va_up cn 6 (nF F6)) (k := 9) (f := nF F9) (hc9)] at hP
                            rw [mW_up (cn := va_up cn 6 (nF F6)) (k := 9) (f := nF F9) (hc9)] at hD
                            rw [mW_up (cn := va_up (va_up cn 6 (nF F6)) 9 (nF F9)) (k := 10) (f := nF F10) (hc10)] at hP
                            rw [mW_up (cn := va_up (va_up cn 6 (nF F6)) 9 (nF F9)) (k := 10) (f := nF F10) (hc10)] at hD
                            have hP : va_P g.1 zCL (mW g ad (va_up fi 0 (nI (zlk (S.2.2.1 1) (S.2.1 2) r nm))) (va_up (va_up (va_up cn 6 (nF F6)) 9 (nF F9)) 10 (nF F10)) xl) _ := hP
                            have hD : va_D (mA ad s.heap.size) (mW g ad (va_up fi 0 (nI (zlk (S.2.2.1 1) (S.2.1 2) r nm))) (va_up (va_up (va_up cn 6 (nF F6)) 9 (nF F9)) 10 (nF F10)) xl) := hD
                            exact ⟨F6, F9, F10, rfl, rfl, hP, hD, hS, lv_sub hl [3, 4, 5, 6, 7, 8, 9, 1, 0] rfl, trivial⟩
                        · omega
                      · exact absurd rfl c_110
                    · have hne := zres_ne hll (zlk_le (S.2.2.1 1) (S.2.1 2) r nm)
                      refine lv_istore (lv' := [(7, .int (zres (zlk (S.2.2.1 1) (S.2.1 2) r nm))), (0, .ref (ad 0)), (1, .int (nI x)), (2, .int (nI i)), (3, .int (nI w)), (4, .int (nI n)), (5, .int (nI r)), (6, .int (nI nm))]) hx hb dX3_who_106 hl (by decide) rfl (fun ls hl => ?_)
                      refine lv_iload hx hb dX3_who_108 (lv_at hl 0 rfl) ?_
                      refine lv_if_eq (tgt := 116) hx hb dX3_who_110 (by decide) (fun c_110 => ?_) (fun c_110 => ?_)
                      · exact absurd c_110 hne
                      · refine lv_iload hx hb dX3_who_113 (lv_at hl 0 rfl) ?_
                        exact W.iret (v := zres (zlk (S.2.2.1 1) (S.2.1 2) r nm)) hx hb hr (fun t ht hW => ⟨⟨zres (zlk (S.2.2.1 1) (S.2.1 2) r nm), (va_up fi 0 (nI (zlk (S.2.2.1 1) (S.2.1 2) r nm)), cn, xl), rfl, (by unfold opWho; (try rw [zn_nI (n := x) (by omega)]); (try rw [zn_nI (n := w) (by omega)]); (try rw [zn_nI (n := n) (by omega)]); (try rw [zn_nI (n := r) (by omega)]); (try rw [zn_nI (n := nm) (by omega)]); (try rw [zn_nI (n := i) (by omega)]); rw [zif_t c_5, zif_t c_17, zif_t c_30, zif_t c_38, zif_t c_51, zif_f (show ¬ (0 < w ∧ ¬ zIn (nI i) 0 ((zif (w = 1) (S.2.1 4 3) (bwl (S.2.1 4) x) : Nat) - 1 : Int)) from fun z => z.2 c_92), zif_f hll]; exact ⟨rfl, ⟨rfl, hf8, hf12, hf19, hf29, hc1, hc2, hc3, hc4, hc7, hc11, hc26, hc27, hc28⟩, ⟨_, _, _, _, _, _, _, _, _, hc5, hc6, hc9, hc10, hc24, hc25, hc21, hc22, hf23⟩⟩), by rw [ht]; exact hP, hD⟩, hS.F ht⟩) hS.2.2 dX3_who_115
                · refine lv_ldc hx hb hown (hts _ q1401) dX3_who_95 ?_
                  exact W.iret (v := -1000001) hx hb hr (fun t ht hW => ⟨⟨-1000001, (fi, cn, xl), rfl, (by unfold opWho; (try rw [zn_nI (n := x) (by omega)]); (try rw [zn_nI (n := w) (by omega)]); (try rw [zn_nI (n := n) (by omega)]); (try rw [zn_nI (n := r) (by omega)]); (try rw [zn_nI (n := nm) (by omega)]); rw [zif_t c_5, zif_t c_17, zif_t c_30, zif_t c_38, zif_t c_51, zif_t (show 0 < w ∧ ¬ zIn i2 0 ((zif (w = 1) (S.2.1 4 3) (bwl (S.2.1 4) x) : Nat) - 1 : Int) from ⟨by omega, c_92⟩)]; exact ⟨rfl, ⟨hf0, hf8, hf12, hf19, hf29, hc1, hc2, hc3, hc4, hc7, hc11, hc26, hc27, hc28⟩, ⟨_, _, _, _, _, _, _, _, _, hc5, hc6, hc9, hc10, hc24, hc25, hc21, hc22, hf23⟩⟩), by rw [ht]; exact hP, hD⟩, hS.F ht⟩) hS.2.2 dX3_who_97
              · refine lv_iload_n hx hb dX3_who_64 rfl (lv_at hl 3 rfl) ?_
                refine lv_iconst (v := nI 1) hx hb dX3_who_65 (by decide) ?_
                refine zc_ne (tgt := 78) hx hb (by omega) (by omega) dX3_who_66 (by decide) (fun c_66 => ?_) (fun c_66 => ?_)
                · refine lv_aload_n hx hb dX3_who_78 rfl (lv_at hl 0 rfl) ?_
                  refine va_get (D := g.1) (ci := 3) (v := .ref (ad 4)) (C := RX3) (T := TX3) (N := 30) hx hb hts in_X3 hown hK hP 0 rfl rfl 4 (by decide) (hts _ q1301) (fun _ h9 => h9) rfl dX3_who_79 ?_
                  refine lv_iload_n hx hb dX3_who_82 rfl (lv_at hl 1 rfl) ?_
                  have hQ_83 : va_P g.1 zCL [(ad 4, .inl (g.2 0, 44, .inl (cn 4)))] _ := hP.sub [4] rfl
                  rw [show _ = _ from hc4] at hQ_83
                  refine vp_callSi (W.runS (As := [.ref (ad 4), .int (nI x)]) (rest := [.long (lN 0), .long i2.toInt64]) ⟨hx, hb, hml, hown, hts⟩ (m_X3_wordSize l g (ad 4) (S.2.1 4) x (by omega)) (va_cwS 2 hts (lw_S q1497 q1498 q69 q1499) rfl rfl rfl hdS_X3_wordSize ⟨Nat.le_of_ble_eq_true rfl, Nat.le_of_ble_eq_true rfl⟩) (zpreS hK hN hQ_83) rfl rfl hl.1 rfl (lv_room (Nat.le_of_ble_eq_true rfl)) dX3_who_83 ⟨Nat.le_of_ble_eq_true rfl, Nat.le_of_ble_eq_true rfl⟩) (fun r_83 hr_83 => ?_)
                  subst hr_83
                  exact jn_64 _ ((congrArg nI (zif_f c_66)).symm)
                · refine lv_aload_n hx hb dX3_who_69 rfl (lv_at hl 0 rfl) ?_
                  refine va_get (D := g.1) (ci := 3) (v := .ref (ad 4)) (C := RX3) (T := TX3) (N := 30) hx hb hts in_X3 hown hK hP 0 rfl rfl 4 (by decide) (hts _ q1301) (fun _ h9 => h9) rfl dX3_who_70 ?_
                  refine lv_iconst (v := nI 3) hx hb dX3_who_73 (by decide) ?_
                  refine zald hx hb hK hP 4 0 rfl rfl (j := 3) (by omega) (by decide) dX3_who_74 ?_
                  refine zti (congrFun hc4 _) ?_
                  refine zti (show (nF (S.2.1 4)) 3 = nI ((S.2.1 4) 3) from rfl) ?_
                  refine lv_goto (tgt := 86) hx hb dX3_who_75 (by decide) ?_
                  exact jn_64 _ ((congrArg nI (zif_t c_66)).symm)
          · refine lv_ldc hx hb hown (hts _ q1401) dX3_who_54 ?_
            exact W.iret (v := -1000001) hx hb hr (fun t ht hW => ⟨⟨-1000001, (fi, cn, xl), rfl, (by unfold opWho; rw [zif_t c_5, zif_t c_17, zif_t c_30, zif_t c_38, zif_f c_51]; exact ⟨rfl, ⟨hf0, hf8, hf12, hf19, hf29, hc1, hc2, hc3, hc4, hc7, hc11, hc26, hc27, hc28⟩, ⟨_, _, _, _, _, _, _, _, _, hc5, hc6, hc9, hc10, hc24, hc25, hc21, hc22, hf23⟩⟩), by rw [ht]; exact hP, hD⟩, hS.F ht⟩) hS.2.2 dX3_who_56

set_option maxHeartbeats 4000000 in
set_option maxRecDepth 100000 in
theorem m_X3_quiet (l : Launch) (g : zG) (ad : Nat → Nat) (fi : Nat → Int32) (cn : Nat → Nat → Int32) (xl : Nat → Nat → Int64) (sz : Nat) (S : zS) (hM : MR S fi cn) (hX : MX fi cn xl) (hI : SI S) : Met l yX3_quiet (ws_ yX3_quiet cX3_quiet 4 (some .int)) ({ frames := 3, cells := 0, slots := 0, locals := 70 }) (zPc g [.ref (ad 0)] (mH g ad fi cn xl sz)) (va_Qi (fun (r9 : Int32) u => r9 = (opQuiet S ).1 ∧ MR (opQuiet S ).2 u.1 u.2.1 ∧ MX u.1 u.2.1 u.2.2) (mB g ad sz) (mA ad sz)) 0 0 (mA ad sz) := by
  refine Met.ofW (cc := cX3_quiet) (maxL := 4) (ret := (some .int)) (by decide) rfl ?_
  intro p e s m args below meth c s₁ B0 hml hv
  obtain ⟨rfl, ⟨hK, hN⟩, hsz, hP, hD⟩ := hv
  have hx := B0.exec
  have hb := B0.bytes
  have hr := B0.returns
  have hts := atoms_spec (ws := ws_ yX3_quiet cX3_quiet 4 (some .int)) B0.pre
  have hts : ∀ w ∈ lw_all, w.before _ s = true := fun w h => hts w (List.mem_cons_of_mem _ h)
  have hown : s.vm.findClass RX3 = some m.cls := findClass_of_methodNamed B0.named
  have hlocks := B0.notSynchronized
  subst hsz
  have hD := mD_self s.heap.size hD
  have hS : va_S (mA ad s.heap.size) s.heap s.heap [] := va_S.rf
  have hl := lv_entry ([.ref (ad 0)]) (n := 4) (Nat.le_of_ble_eq_true rfl)
  rw [lg_entry_eq]
  generalize (lg_sl ([.ref (ad 0)]) ++ List.replicate (4 - (lg_sl ([.ref (ad 0)])).length) Slot.unset).toArray = ls at hl ⊢
  have hl : lv_has ls 4 [(0, .ref (ad 0))] := hl
  obtain ⟨hf0, hf8, hf12, hf19, hf29, hc1, hc2, hc3, hc4, hc7, hc11, hc26, hc27, hc28⟩ := hM
  obtain ⟨F5, F6, F9, F10, F24, E25, N21, N22, b23, hc5, hc6, hc9, hc10, hc24, hc25, hc21, hc22, hf23⟩ := hX
  have hB : bOK (S.2.1 4) := hI.1
  have h0 : S.2.1 4 0 ≤ 4 := hB.n4
  have h3 : S.2.1 4 3 ≤ 8 := hB.r8
  have hac := hI.2.2.1
  have hta := hI.2.2.2.1
  have hmn := hI.2.2.2.2.2.2.1
  have htn := hI.2.2.2.2.2.1
  refine lv_aload_n hx hb dX3_quiet_0 rfl (lv_at hl 0 rfl) ?_
  have hQ_1 : va_P g.1 zCL [(ad 0, .inr (3, mO ad fi)), (ad 4, .inl (g.2 0, 44, .inl (cn 4)))] _ := hP.sub [0, 4] rfl
  rw [show _ = _ from hc4] at hQ_1
  refine vp_callSi (W.runV (As := []) (rest := []) ⟨hx, hb, hml, hown, hts⟩ (m_X3_isThere l g ad fi (S.2.1 4) hB  ) (cwV 0 hts (lw_V q1517 q1519 qs43 q69 q1520) rfl rfl rfl hdV_X3_isThere ⟨Nat.le_of_ble_eq_true rfl, Nat.le_of_ble_eq_true rfl⟩) (zpreV hK hN (va_recv hK hP (ci := 3) (q0 := 0) rfl rfl) hQ_1) rfl rfl hl.1 rfl (lv_room (Nat.le_of_ble_eq_true rfl)) dX3_quiet_1 ⟨Nat.le_of_ble_eq_true rfl, Nat.le_of_ble_eq_true rfl⟩) (fun r_1 hr_1 => ?_)
  subst hr_1
  refine zi_neB (tgt := 10) hx hb dX3_quiet_4 (by decide) (fun c_4 => ?_) (fun c_4 => ?_)
  · refine lv_iconst (v := nI 0) hx hb dX3_quiet_10 (by decide) ?_
    refine lv_istore_n (lv' := [(1, .int (nI 0)), (0, .ref (ad 0))]) hx hb dX3_quiet_11 rfl hl (by decide) rfl (fun ls hl => ?_)
    refine lv_iconst (v := nI 0) hx hb dX3_quiet_12 (by decide) ?_
    refine lv_istore_n (lv' := [(2, .int (nI 0)), (1, .int (nI 0)), (0, .ref (ad 0))]) hx hb dX3_quiet_13 rfl hl (by decide) rfl (fun ls hl => ?_)
    refine zloopW (head := 14) (S.2.1 4 3) (fun k H locs cells slots ls => ∃ (T0 : Nat → Nat), cells = 0 ∧ slots = 0 ∧ va_P g.1 zCL (mW g ad fi (va_up cn 6 (nF T0)) xl) H ∧ va_D (mA ad s.heap.size) (mW g ad fi (va_up cn 6 (nF T0)) xl) ∧ va_S (mA ad s.heap.size) s.heap H locs ∧ lv_has ls 4 [(0, .ref (ad 0)), (1, .int (nI (bquiet (S.2.1 4) k))), (2, .int (nI k))] ∧ True) (fun k hv_k ih_14 H locs cells slots ls hI => ?_) 0 (Nat.zero_le _) ?_
    · obtain ⟨T0, rfl, rfl, hP, hD, hS, hl, hI_14⟩ := hI
      refine lv_iload_n hx hb dX3_quiet_14 rfl (lv_at hl 2 rfl) ?_
      refine lv_aload_n hx hb dX3_quiet_15 rfl (lv_at hl 0 rfl) ?_
      refine va_get (D := g.1) (ci := 3) (v := .ref (ad 4)) (C := RX3) (T := TX3) (N := 30) hx hb hts in_X3 hown hK hP 0 rfl rfl 4 (by decide) (hts _ q1301) (fun _ h9 => h9) rfl dX3_quiet_16 ?_
      refine lv_iconst (v := nI 3) hx hb dX3_quiet_19 (by decide) ?_
      refine zald hx hb hK hP 4 0 rfl rfl (j := 3) (by omega) (by decide) dX3_quiet_20 ?_
      refine zti (congrFun hc4 _) ?_
      refine zti (show (nF (S.2.1 4)) 3 = nI ((S.2.1 4) 3) from rfl) ?_
      refine zc_ge (tgt := 100) hx hb (by omega) (by omega) dX3_quiet_21 (by decide) (fun c_21 => ?_) (fun c_21 => ?_)
      · obtain rfl : S.2.1 4 3 = k := by omega
        refine lv_iload_n hx hb dX3_quiet_100 rfl (lv_at hl 1 rfl) ?_
        exact W.iret (v := nI (bquiet (S.2.1 4) (S.2.1 4 3))) hx hb hr (fun t ht hW => ⟨⟨nI (bquiet (S.2.1 4) (S.2.1 4 3)), (fi, va_up cn 6 (nF T0), xl), rfl, (by unfold opQuiet; rw [zif_t c_4]; exact ⟨rfl, ⟨hf0, hf8, hf12, hf19, hf29, hc1, hc2, hc3, hc4, hc7, hc11, hc26, hc27, hc28⟩, ⟨_, _, _, _, _, _, _, _, _, hc5, rfl, hc9, hc10, hc24, hc25, hc21, hc22, hf23⟩⟩), by rw [ht]; exact hP, hD⟩, hS.F ht⟩) hS.2.2 dX3_quiet_101
      · refine lv_iconst (v := nI 0) hx hb dX3_quiet_24 (by decide) ?_
        refine lv_istore_n (lv' := [(3, .int (nI 0)), (0, .ref (ad 0)), (1, .int (nI (bquiet (S.2.1 4) k))), (2, .int (nI k))]) hx hb dX3_quiet_25 rfl hl (by decide) rfl (fun ls hl => ?_)
        refine zloopW (head := 26) (S.2.1 4 0) (fun v H locs cells slots ls => ∃ (T1 : Nat → Nat), cells = 0 ∧ slots = 0 ∧ va_P g.1 zCL (mW g ad fi (va_up cn 6 (nF T1)) xl) H ∧ va_D (mA ad s.heap.size) (mW g ad fi (va_up cn 6 (nF T1)) xl) ∧ va_S (mA ad s.heap.size) s.heap H locs ∧ lv_has ls 4 [(0, .ref (ad 0)), (1, .int (nI (bqk (S.2.1 4) k (bquiet (S.2.1 4) k) v))), (2, .int (nI k)), (3, .int (nI v))] ∧ True) (fun v hv_v ih_26 H locs cells slots ls hI => ?_) 0 (Nat.zero_le _) ?_
        · obtain ⟨T1, rfl, rfl, hP, hD, hS, hl, hI_26⟩ := hI
          refine lv_iload_n hx hb dX3_quiet_26 rfl (lv_at hl 3 rfl) ?_
          refine lv_aload_n hx hb dX3_quiet_27 rfl (lv_at hl 0 rfl) ?_
          refine va_get (D := g.1) (ci := 3) (v := .ref (ad 4)) (C := RX3) (T := TX3) (N := 30) hx hb hts in_X3 hown hK hP 0 rfl rfl 4 (by decide) (hts _ q1301) (fun _ h9 => h9) rfl dX3_quiet_28 ?_
          refine lv_iconst (v := nI 0) hx hb dX3_quiet_31 (by decide) ?_
          refine zald hx hb hK hP 4 0 rfl rfl (j := 0) (by omega) (by decide) dX3_quiet_32 ?_
          refine zti (congrFun hc4 _) ?_
          refine zti (show (nF (S.2.1 4)) 0 = nI ((S.2.1 4) 0) from rfl) ?_
          refine zc_ge (tgt := 94) hx hb (by omega) (by omega) dX3_quiet_33 (by decide) (fun c_33 => ?_) (fun c_33 => ?_)
          · obtain rfl : S.2.1 4 0 = v := by omega
            refine lv_iinc (v := nI (k + 1)) (lv' := [(2, .int (nI (k + 1))), (0, .ref (ad 0)), (1, .int (nI (bqk (S.2.1 4) k (bquiet (S.2.1 4) k) (S.2.1 4 0)))), (3, .int (nI (S.2.1 4 0)))]) hx hb dX3_quiet_94 hl (k := 2) rfl (nI_add k 1) (by decide) rfl (fun ls hl => ?_)
            refine lv_goto (tgt := 14) hx hb dX3_quiet_97 (by decide) ?_
            have hJ : True := trivial
            exact ih_14 (by omega) _ _ _ _ _ ⟨T1, rfl, rfl, hP, hD, hS, lv_sub hl [1, 2, 0] rfl, hJ⟩
          · refine lv_aload_n hx hb dX3_quiet_36 rfl (lv_at hl 0 rfl) ?_
            have hle_37 := hS.1
            refine va_callv (va_runV (As := []) (rest := []) ⟨hx, hb, hml, hown, hts⟩ (m_X3_layThen l g ad fi (va_up cn 6 (nF T1)) xl _ (S.2.1 4) T1 hc4 rfl) (cwV 0 hts (lw_V q1645 q1647 qs53 q69 q1648) rfl rfl rfl hdV_X3_layThen ⟨Nat.le_of_ble_eq_true rfl, Nat.le_of_ble_eq_true rfl⟩) (zpreV hK hN (va_recv hK hP (ci := 3) (q0 := 0) rfl rfl) ⟨rfl, hP, hD.weaken (fun _ _ _ _ => trivial)⟩) rfl rfl hl.1 rfl (lv_room (Nat.le_of_ble_eq_true rfl)) dX3_quiet_37 ⟨Nat.le_of_ble_eq_true rfl, Nat.le_of_ble_eq_true rfl⟩) hS (fun q _ h => mA_le hS.1 q h) (mA_le hS.1) (fun u t H locs ht hvm hw_37 hB hzz hkk hS => ?_)
            obtain ⟨hP, hD⟩ := hB
            rw [ht] at hP
            have hD := hD.weaken (fun _ _ _ h => mA_le hle_37 _ h)
            obtain ⟨_, rfl⟩ := hw_37
            have hP : va_P g.1 zCL (mW g ad fi (va_up cn 6 (nF (S.2.1 4))) xl) _ := hP
            have hD : va_D (mA ad s.heap.size) (mW g ad fi (va_up cn 6 (nF (S.2.1 4))) xl) := hD
            refine lv_aload_n hx hb dX3_quiet_40 rfl (lv_at hl 0 rfl) ?_
            refine va_get (D := g.1) (ci := 3) (v := .ref (ad 6)) (C := RX3) (T := TX3) (N := 30) hx hb hts in_X3 hown hK hP 0 rfl rfl 6 (by decide) (hts _ q1303) (fun _ h9 => h9) rfl dX3_quiet_41 ?_
            refine lv_iconst (v := nI 4) hx hb dX3_quiet_44 (by decide) ?_
            refine lv_iload_n hx hb dX3_quiet_45 rfl (lv_at hl 2 rfl) ?_
            refine lv_iadd hx hb dX3_quiet_46 ?_
            refine zti (nI_add 4 k) ?_
            refine lv_iload_n hx hb dX3_quiet_47 rfl (lv_at hl 3 rfl) ?_
            refine zast (f := nF (S.2.1 4)) hx hb hK hP hD hS 6 0 rfl rfl (j := 4 + k) (by omega) (by decide) dX3_quiet_48 (fun H locs hP hD hS => ?_)
            rw [nF_up] at hP hD
            have hP : va_P g.1 zCL (mW g ad fi (va_up cn 6 (nF (va_up (S.2.1 4) (4 + k) v))) xl) _ := hP
            have hD : va_D (mA ad s.heap.size) (mW g ad fi (va_up cn 6 (nF (va_up (S.2.1 4) (4 + k) v))) xl) := hD
            refine lv_iload_n hx hb dX3_quiet_49 rfl (lv_at hl 1 rfl) ?_
            have hk8 : k < S.2.1 4 3 := by omega
            have hBq : bOK (va_up (S.2.1 4) (4 + k) v) := hB.trRow (by omega) (by omega)
            have hrw := hB.row hk8
            have hp1 := hBq.prs
            have hp2 := hB.prs
            refine zjoin (ls := ls) (α := Int32) (fun v9 => v9 = nI (zif (¬ v = S.2.1 4 (4 + k) ∧ bpairs (va_up (S.2.1 4) (4 + k) v) = bpairs (S.2.1 4)) (2 ^ k) 0)) (fun v9 => .int v9 :: [.int (nI (bqk (S.2.1 4) k (bquiet (S.2.1 4) k) v))]) 86 (fun v9 hv => ?_) (fun jn_50 => ?_)
            · subst hv
              refine lv_ior hx hb dX3_quiet_86 ?_
              refine zti (z_or (bqk (S.2.1 4) k (bquiet (S.2.1 4) k) v) (zif (¬ v = S.2.1 4 (4 + k) ∧ bpairs (va_up (S.2.1 4) (4 + k) v) = bpairs (S.2.1 4)) (2 ^ k) 0)) ?_
              refine lv_istore_n (lv' := [(1, .int (nI ((bqk (S.2.1 4) k (bquiet (S.2.1 4) k) v) ||| (zif (¬ v = S.2.1 4 (4 + k) ∧ bpairs (va_up (S.2.1 4) (4 + k) v) = bpairs (S.2.1 4)) (2 ^ k) 0)))), (0, .ref (ad 0)), (2, .int (nI k)), (3, .int (nI v))]) hx hb dX3_quiet_87 rfl hl (by decide) rfl (fun ls hl => ?_)
              refine lv_iinc (v := nI (v + 1)) (lv' := [(3, .int (nI (v + 1))), (1, .int (nI ((bqk (S.2.1 4) k (bquiet (S.2.1 4) k) v) ||| (zif (¬ v = S.2.1 4 (4 + k) ∧ bpairs (va_up (S.2.1 4) (4 + k) v) = bpairs (S.2.1 4)) (2 ^ k) 0)))), (0, .ref (ad 0)), (2, .int (nI k))]) hx hb dX3_quiet_88 hl (k := 3) rfl (nI_add v 1) (by decide) rfl (fun ls hl => ?_)
              refine lv_goto (tgt := 26) hx hb dX3_quiet_91 (by decide) ?_
              have hJ : True := trivial
              exact ih_26 (by omega) _ _ _ _ _ ⟨va_up (S.2.1 4) (4 + k) v, rfl, rfl, hP, hD, hS, lv_sub hl [2, 1, 3, 0] rfl, hJ⟩
            · refine lv_iload_n hx hb dX3_quiet_50 rfl (lv_at hl 3 rfl) ?_
              refine lv_aload_n hx hb dX3_quiet_51 rfl (lv_at hl 0 rfl) ?_
              refine va_get (D := g.1) (ci := 3) (v := .ref (ad 4)) (C := RX3) (T := TX3) (N := 30) hx hb hts in_X3 hown hK hP 0 rfl rfl 4 (by decide) (hts _ q1301) (fun _ h9 => h9) rfl dX3_quiet_52 ?_
              refine lv_iconst (v := nI 4) hx hb dX3_quiet_55 (by decide) ?_
              refine lv_iload_n hx hb dX3_quiet_56 rfl (lv_at hl 2 rfl) ?_
              refine lv_iadd hx hb dX3_quiet_57 ?_
              refine zti (nI_add 4 k) ?_
              refine zald hx hb hK hP 4 0 rfl rfl (j := 4 + k) (by omega) (by decide) dX3_quiet_58 ?_
              refine zti (congrFun hc4 _) ?_
              refine zti (show (nF (S.2.1 4)) (4 + k) = nI ((S.2.1 4) (4 + k)) from rfl) ?_
              refine zc_eq (tgt := 85) hx hb (by omega) (by omega) dX3_quiet_59 (by decide) (fun c_59 => ?_) (fun c_59 => ?_)
              · refine lv_iconst (v := nI 0) hx hb dX3_quiet_85 (by decide) ?_
                exact jn_50 _ ((congrArg nI (zif_f (fun z => z.1 c_59))).symm)
              · refine lv_aload_n hx hb dX3_quiet_62 rfl (lv_at hl 0 rfl) ?_
                refine va_get (D := g.1) (ci := 3) (v := .ref (ad 6)) (C := RX3) (T := TX3) (N := 30) hx hb hts in_X3 hown hK hP 0 rfl rfl 6 (by decide) (hts _ q1303) (fun _ h9 => h9) rfl dX3_quiet_63 ?_
                have hQ_66 : va_P g.1 zCL [(ad 6, .inl (g.2 0, 44, .inl (nF (va_up (S.2.1 4) (4 + k) v))))] _ := hP.sub [6] rfl
                refine vp_callSi (W.runS (As := [.ref (ad 6)]) (rest := [.int (nI (bqk (S.2.1 4) k (bquiet (S.2.1 4) k) v))]) ⟨hx, hb, hml, hown, hts⟩ (m_X3_pairsOf l g (ad 6) (va_up (S.2.1 4) (4 + k) v)  hBq) (va_cwS 1 hts (lw_S q1614 q1615 q69 q1616) rfl rfl rfl hdS_X3_pairsOf ⟨Nat.le_of_ble_eq_true rfl, Nat.le_of_ble_eq_true rfl⟩) (zpreS hK hN hQ_66) rfl rfl hl.1 rfl (lv_room (Nat.le_of_ble_eq_true rfl)) dX3_quiet_66 ⟨Nat.le_of_ble_eq_true rfl, Nat.le_of_ble_eq_true rfl⟩) (fun r_66 hr_66 => ?_)
                subst hr_66
                refine lv_aload_n hx hb dX3_quiet_69 rfl (lv_at hl 0 rfl) ?_
                refine va_get (D := g.1) (ci := 3) (v := .ref (ad 4)) (C := RX3) (T := TX3) (N := 30) hx hb hts in_X3 hown hK hP 0 rfl rfl 4 (by decide) (hts _ q1301) (fun _ h9 => h9) rfl dX3_quiet_70 ?_
                have hQ_73 : va_P g.1 zCL [(ad 4, .inl (g.2 0, 44, .inl (cn 4)))] _ := hP.sub [4] rfl
                rw [show _ = _ from hc4] at hQ_73
                refine vp_callSi (W.runS (As := [.ref (ad 4)]) (rest := [.int (nI (bpairs (va_up (S.2.1 4) (4 + k) v))), .int (nI (bqk (S.2.1 4) k (bquiet (S.2.1 4) k) v))]) ⟨hx, hb, hml, hown, hts⟩ (m_X3_pairsOf l g (ad 4) (S.2.1 4)  hB) (va_cwS 1 hts (lw_S q1614 q1615 q69 q1616) rfl rfl rfl hdS_X3_pairsOf ⟨Nat.le_of_ble_eq_true rfl, Nat.le_of_ble_eq_true rfl⟩) (zpreS hK hN hQ_73) rfl rfl hl.1 rfl (lv_room (Nat.le_of_ble_eq_true rfl)) dX3_quiet_73 ⟨Nat.le_of_ble_eq_true rfl, Nat.le_of_ble_eq_true rfl⟩) (fun r_73 hr_73 => ?_)
                subst hr_73
                refine zc_ne (tgt := 85) hx hb (by omega) (by omega) dX3_quiet_76 (by decide) (fun c_76 => ?_) (fun c_76 => ?_)
                · refine lv_iconst (v := nI 0) hx hb dX3_quiet_85 (by decide) ?_
                  exact jn_50 _ ((congrArg nI (zif_f (fun z => c_76 z.2))).symm)
                · refine lv_iconst (v := nI 1) hx hb dX3_quiet_79 (by decide) ?_
                  refine lv_iload_n hx hb dX3_quiet_80 rfl (lv_at hl 2 rfl) ?_
                  refine lv_ishl hx hb dX3_quiet_81 ?_
                  refine zti (zshl1 (a := k) (by omega)) ?_
                  refine lv_goto (tgt := 86) hx hb dX3_quiet_82 (by decide) ?_
                  exact jn_50 _ ((congrArg nI (zif_t ⟨c_59, c_76⟩)).symm)
        · have hP : va_P g.1 zCL (mW g ad fi (va_up cn 6 (nF T0)) xl) _ := hP
          have hD : va_D (mA ad s.heap.size) (mW g ad fi (va_up cn 6 (nF T0)) xl) := hD
          exact ⟨T0, rfl, rfl, hP, hD, hS, lv_sub hl [1, 2, 3, 0] rfl, trivial⟩
    · rw [mW_up (cn := cn) (k := 6) (f := nF F6) (hc6)] at hP
      rw [mW_up (cn := cn) (k := 6) (f := nF F6) (hc6)] at hD
      have hP : va_P g.1 zCL (mW g ad fi (va_up cn 6 (nF F6)) xl) _ := hP
      have hD : va_D (mA ad s.heap.size) (mW g ad fi (va_up cn 6 (nF F6)) xl) := hD
      exact ⟨F6, rfl, rfl, hP, hD, hS, lv_sub hl [2, 1, 0] rfl, trivial⟩
  · refine lv_ldc hx hb hown (hts _ q1475) dX3_quiet_7 ?_
    exact W.iret (v := -1000002) hx hb hr (fun t ht hW => ⟨⟨-1000002, (fi, cn, xl), rfl, (by unfold opQuiet; rw [zif_f c_4]; exact ⟨rfl, ⟨hf0, hf8, hf12, hf19, hf29, hc1, hc2, hc3, hc4, hc7, hc11, hc26, hc27, hc28⟩, ⟨_, _, _, _, _, _, _, _, _, hc5, hc6, hc9, hc10, hc24, hc25, hc21, hc22, hf23⟩⟩), by rw [ht]; exact hP, hD⟩, hS.F ht⟩) hS.2.2 dX3_quiet_9

set_option maxHeartbeats 4000000 in
set_option maxRecDepth 100000 in
theorem m_X3_drawn (l : Launch) (g : zG) (ad : Nat → Nat) (fi : Nat → Int32) (cn : Nat → Nat → Int32) (xl : Nat → Nat → Int64) (sz : Nat) (S : zS) (hM : MR S fi cn) (hX : MX fi cn xl) (hI : SI S) (n2 x2 w2 : Int32) : Met l yX3_drawn (ws_ yX3_drawn cX3_drawn 10 (some .int)) ({ frames := 3, cells := 0, slots := 0, locals := 70 }) (zPc g [.ref (ad 0), .int n2, .int x2, .int w2] (mH g ad fi cn xl sz)) (va_Qi (fun (r9 : Int32) u => r9 = (opDrawn S n2 x2 w2 ).1 ∧ MR (opDrawn S n2 x2 w2 ).2 u.1 u.2.1 ∧ MX u.1 u.2.1 u.2.2) (mB g ad sz) (mA ad sz)) 0 0 (mA ad sz) := by
  refine Met.ofW (cc := cX3_drawn) (maxL := 10) (ret := (some .int)) (by decide) rfl ?_
  intro p e s m args below meth c s₁ B0 hml hv
  obtain ⟨rfl, ⟨hK, hN⟩, hsz, hP, hD⟩ := hv
  have hx := B0.exec
  have hb := B0.bytes
  have hr := B0.returns
  have hts := atoms_spec (ws := ws_ yX3_drawn cX3_drawn 10 (some .int)) B0.pre
  have hts : ∀ w ∈ lw_all, w.before _ s = true := fun w h => hts w (List.mem_cons_of_mem _ h)
  have hown : s.vm.findClass RX3 = some m.cls := findClass_of_methodNamed B0.named
  have hlocks := B0.notSynchronized
  subst hsz
  have hD := mD_self s.heap.size hD
  have hS : va_S (mA ad s.heap.size) s.heap s.heap [] := va_S.rf
  have hl := lv_entry ([.ref (ad 0), .int n2, .int x2, .int w2]) (n := 10) (Nat.le_of_ble_eq_true rfl)
  rw [lg_entry_eq]
  generalize (lg_sl ([.ref (ad 0), .int n2, .int x2, .int w2]) ++ List.replicate (10 - (lg_sl ([.ref (ad 0), .int n2, .int x2, .int w2])).length) Slot.unset).toArray = ls at hl ⊢
  have hl : lv_has ls 10 [(0, .ref (ad 0)), (1, .int n2), (2, .int x2), (3, .int w2)] := hl
  obtain ⟨hf0, hf8, hf12, hf19, hf29, hc1, hc2, hc3, hc4, hc7, hc11, hc26, hc27, hc28⟩ := hM
  obtain ⟨F5, F6, F9, F10, F24, E25, N21, N22, b23, hc5, hc6, hc9, hc10, hc24, hc25, hc21, hc22, hf23⟩ := hX
  have hB : bOK (S.2.1 4) := hI.1
  have h0 : S.2.1 4 0 ≤ 4 := hB.n4
  have h3 : S.2.1 4 3 ≤ 8 := hB.r8
  have hac := hI.2.2.1
  have hta := hI.2.2.2.1
  have hmn := hI.2.2.2.2.2.2.1
  have htn := hI.2.2.2.2.2.1
  refine lv_aload_n hx hb dX3_drawn_0 rfl (lv_at hl 0 rfl) ?_
  have hQ_1 : va_P g.1 zCL [(ad 0, .inr (3, mO ad fi)), (ad 4, .inl (g.2 0, 44, .inl (cn 4)))] _ := hP.sub [0, 4] rfl
  rw [show _ = _ from hc4] at hQ_1
  refine vp_callSi (W.runV (As := []) (rest := []) ⟨hx, hb, hml, hown, hts⟩ (m_X3_isThere l g ad fi (S.2.1 4) hB  ) (cwV 0 hts (lw_V q1517 q1519 qs43 q69 q1520) rfl rfl rfl hdV_X3_isThere ⟨Nat.le_of_ble_eq_true rfl, Nat.le_of_ble_eq_true rfl⟩) (zpreV hK hN (va_recv hK hP (ci := 3) (q0 := 0) rfl rfl) hQ_1) rfl rfl hl.1 rfl (lv_room (Nat.le_of_ble_eq_true rfl)) dX3_drawn_1 ⟨Nat.le_of_ble_eq_true rfl, Nat.le_of_ble_eq_true rfl⟩) (fun r_1 hr_1 => ?_)
  subst hr_1
  refine zi_neB (tgt := 10) hx hb dX3_drawn_4 (by decide) (fun c_4 => ?_) (fun c_4 => ?_)
  · refine lv_iload_n hx hb dX3_drawn_10 rfl (lv_at hl 1 rfl) ?_
    refine lv_i2l hx hb dX3_drawn_11 rfl ?_
    refine lv_lconst (v := lN 0) hx hb dX3_drawn_12 (by decide) ?_
    refine lv_ldc2 hx hb hown (hts _ q1674) dX3_drawn_13 ?_
    refine ztl (show (30 : Int64) = lN 30 from rfl) ?_
    refine vp_callSi (W.runS (As := [.long n2.toInt64, .long (lN 0), .long (lN 30)]) (rest := []) ⟨hx, hb, hml, hown, hts⟩ (m_X3_in l g n2.toInt64 (lN 0) (lN 30)) (va_cwS 3 hts (lw_S q1397 q1398 q69 q1399) rfl rfl rfl hdS_X3_in ⟨Nat.le_of_ble_eq_true rfl, Nat.le_of_ble_eq_true rfl⟩) (zpreS hK hN trivial) rfl rfl hl.1 rfl (lv_room (Nat.le_of_ble_eq_true rfl)) dX3_drawn_16 ⟨Nat.le_of_ble_eq_true rfl, Nat.le_of_ble_eq_true rfl⟩) (fun r_16 hr_16 => ?_)
    subst hr_16
    refine zti (show _ = zB (zIn n2 0 30) from zB_c (zIn_l n2 (by omega) (by omega))) ?_
    refine zi_eqB (tgt := 44) hx hb dX3_drawn_19 (by decide) (fun c_19 => ?_) (fun c_19 => ?_)
    · refine lv_ldc hx hb hown (hts _ q1401) dX3_drawn_44 ?_
      exact W.iret (v := -1000001) hx hb hr (fun t ht hW => ⟨⟨-1000001, (fi, cn, xl), rfl, (by unfold opDrawn; rw [zif_t c_4, zif_f c_19]; exact ⟨rfl, ⟨hf0, hf8, hf12, hf19, hf29, hc1, hc2, hc3, hc4, hc7, hc11, hc26, hc27, hc28⟩, ⟨_, _, _, _, _, _, _, _, _, hc5, hc6, hc9, hc10, hc24, hc25, hc21, hc22, hf23⟩⟩), by rw [ht]; exact hP, hD⟩, hS.F ht⟩) hS.2.2 dX3_drawn_46
    · refine lv_iload_n hx hb dX3_drawn_22 rfl (lv_at hl 2 rfl) ?_
      refine lv_i2l hx hb dX3_drawn_23 rfl ?_
      refine lv_lconst (v := lN 1) hx hb dX3_drawn_24 (by decide) ?_
      refine lv_ldc2 hx hb hown (hts _ q1675) dX3_drawn_25 ?_
      refine ztl (show (999999 : Int64) = lN 999999 from rfl) ?_
      refine vp_callSi (W.runS (As := [.long x2.toInt64, .long (lN 1), .long (lN 999999)]) (rest := []) ⟨hx, hb, hml, hown, hts⟩ (m_X3_in l g x2.toInt64 (lN 1) (lN 999999)) (va_cwS 3 hts (lw_S q1397 q1398 q69 q1399) rfl rfl rfl hdS_X3_in ⟨Nat.le_of_ble_eq_true rfl, Nat.le_of_ble_eq_true rfl⟩) (zpreS hK hN trivial) rfl rfl hl.1 rfl (lv_room (Nat.le_of_ble_eq_true rfl)) dX3_drawn_28 ⟨Nat.le_of_ble_eq_true rfl, Nat.le_of_ble_eq_true rfl⟩) (fun r_28 hr_28 => ?_)
      subst hr_28
      refine zti (show _ = zB (zIn x2 1 999999) from zB_c (zIn_l x2 (by omega) (by omega))) ?_
      refine zi_eqB (tgt := 44) hx hb dX3_drawn_31 (by decide) (fun c_31 => ?_) (fun c_31 => ?_)
      · refine lv_ldc hx hb hown (hts _ q1401) dX3_drawn_44 ?_
        exact W.iret (v := -1000001) hx hb hr (fun t ht hW => ⟨⟨-1000001, (fi, cn, xl), rfl, (by unfold opDrawn; rw [zif_t c_4, zif_t c_19, zif_f c_31]; exact ⟨rfl, ⟨hf0, hf8, hf12, hf19, hf29, hc1, hc2, hc3, hc4, hc7, hc11, hc26, hc27, hc28⟩, ⟨_, _, _, _, _, _, _, _, _, hc5, hc6, hc9, hc10, hc24, hc25, hc21, hc22, hf23⟩⟩), by rw [ht]; exact hP, hD⟩, hS.F ht⟩) hS.2.2 dX3_drawn_46
      · refine lv_iload_n hx hb dX3_drawn_34 rfl (lv_at hl 3 rfl) ?_
        refine lv_i2l hx hb dX3_drawn_35 rfl ?_
        refine lv_lconst (v := lN 0) hx hb dX3_drawn_36 (by decide) ?_
        refine lv_lconst (v := lN 1) hx hb dX3_drawn_37 (by decide) ?_
        refine vp_callSi (W.runS (As := [.long w2.toInt64, .long (lN 0), .long (lN 1)]) (rest := []) ⟨hx, hb, hml, hown, hts⟩ (m_X3_in l g w2.toInt64 (lN 0) (lN 1)) (va_cwS 3 hts (lw_S q1397 q1398 q69 q1399) rfl rfl rfl hdS_X3_in ⟨Nat.le_of_ble_eq_true rfl, Nat.le_of_ble_eq_true rfl⟩) (zpreS hK hN trivial) rfl rfl hl.1 rfl (lv_room (Nat.le_of_ble_eq_true rfl)) dX3_drawn_38 ⟨Nat.le_of_ble_eq_true rfl, Nat.le_of_ble_eq_true rfl⟩) (fun r_38 hr_38 => ?_)
        subst hr_38
        refine zti (show _ = zB (zIn w2 0 1) from zB_c (zIn_l w2 (by omega) (by omega))) ?_
        refine zi_neB (tgt := 47) hx hb dX3_drawn_41 (by decide) (fun c_41 => ?_) (fun c_41 => ?_)
        · obtain ⟨n, rfl, hu_n, hv_n⟩ := zIn_ex c_19 (by omega)
          obtain ⟨x, rfl, hu_x, hv_x⟩ := zIn_ex c_31 (by omega)
          obtain ⟨w, rfl, hu_w, hv_w⟩ := zIn_ex c_41 (by omega)
          have hx9 : x < 2147483647 := by omega
          refine lv_aload_n hx hb dX3_drawn_47 rfl (lv_at hl 0 rfl) ?_
          have hle_48 := hS.1
          refine va_callv (va_runV (As := []) (rest := []) ⟨hx, hb, hml, hown, hts⟩ (m_X3_layThen l g ad fi cn xl _ (S.2.1 4) F6 hc4 hc6) (cwV 0 hts (lw_V q1645 q1647 qs53 q69 q1648) rfl rfl rfl hdV_X3_layThen ⟨Nat.le_of_ble_eq_true rfl, Nat.le_of_ble_eq_true rfl⟩) (zpreV hK hN (va_recv hK hP (ci := 3) (q0 := 0) rfl rfl) ⟨rfl, hP, hD.weaken (fun _ _ _ _ => trivial)⟩) rfl rfl hl.1 rfl (lv_room (Nat.le_of_ble_eq_true rfl)) dX3_drawn_48 ⟨Nat.le_of_ble_eq_true rfl, Nat.le_of_ble_eq_true rfl⟩) hS (fun q _ h => mA_le hS.1 q h) (mA_le hS.1) (fun u t H locs ht hvm hw_48 hB hzz hkk hS => ?_)
          obtain ⟨hP, hD⟩ := hB
          rw [ht] at hP
          have hD := hD.weaken (fun _ _ _ h => mA_le hle_48 _ h)
          obtain ⟨_, rfl⟩ := hw_48
          have hP : va_P g.1 zCL (mW g ad fi (va_up cn 6 (nF (S.2.1 4))) xl) _ := hP
          have hD : va_D (mA ad s.heap.size) (mW g ad fi (va_up cn 6 (nF (S.2.1 4))) xl) := hD
          refine lv_iload_n hx hb dX3_drawn_51 rfl (lv_at hl 2 rfl) ?_
          refine lv_i2l (v := lN x) hx hb dX3_drawn_52 (nI_l (by omega)) ?_
          refine lv_lstore (lv' := [(4, .long (lN x)), (0, .ref (ad 0)), (1, .int (nI n)), (2, .int (nI x)), (3, .int (nI w))]) hx hb dX3_drawn_53 hl (by decide) rfl (fun ls hl => ?_)
          refine lv_iconst (v := nI 0) hx hb dX3_drawn_55 (by decide) ?_
          refine lv_istore (lv' := [(6, .int (nI 0)), (4, .long (lN x)), (0, .ref (ad 0)), (1, .int (nI n)), (2, .int (nI x)), (3, .int (nI w))]) hx hb dX3_drawn_56 hl (by decide) rfl (fun ls hl => ?_)
          refine lv_ldcw hx hb hown (hts _ q1676) dX3_drawn_58 ?_
          refine zti (show (65535 : Int32) = nI 65535 from rfl) ?_
          refine lv_istore (lv' := [(7, .int (nI 65535)), (6, .int (nI 0)), (4, .long (lN x)), (0, .ref (ad 0)), (1, .int (nI n)), (2, .int (nI x)), (3, .int (nI w))]) hx hb dX3_drawn_61 hl (by decide) rfl (fun ls hl => ?_)
          refine lv_iconst (v := nI 0) hx hb dX3_drawn_63 (by decide) ?_
          refine lv_istore (lv' := [(8, .int (nI 0)), (7, .int (nI 65535)), (6, .int (nI 0)), (4, .long (lN x)), (0, .ref (ad 0)), (1, .int (nI n)), (2, .int (nI x)), (3, .int (nI w))]) hx hb dX3_drawn_64 hl (by decide) rfl (fun ls hl => ?_)
          refine zloopW (head := 66) (n) (fun k H locs cells slots ls => cells = 0 ∧ slots = 0 ∧ va_P g.1 zCL (mW g ad fi (va_up cn 6 (nF (bdr (S.2.1 4) x k).2.1)) xl) H ∧ va_D (mA ad s.heap.size) (mW g ad fi (va_up cn 6 (nF (bdr (S.2.1 4) x k).2.1)) xl) ∧ va_S (mA ad s.heap.size) s.heap H locs ∧ lv_has ls 10 [(0, .ref (ad 0)), (1, .int (nI n)), (2, .int (nI x)), (3, .int (nI w)), (4, .long (lN ((bdr (S.2.1 4) x k).1))), (6, .int (nI ((bdr (S.2.1 4) x k).2.2.1))), (7, .int (nI ((bdr (S.2.1 4) x k).2.2.2))), (8, .int (nI k))]) (fun k hv_k ih_66 H locs cells slots ls hI => ?_) 0 (Nat.zero_le _) ?_
          · obtain ⟨rfl, rfl, hP, hD, hS, hl⟩ := hI
            have hd := bdr_ok hB c_4 hx9 k
            obtain ⟨hdB, hd0, hd3, hd1⟩ := hd
            have hds := bdr_sum (B := S.2.1 4) x k
            have h31 := hB.2.2.2.2.1 c_4
            have hzz : ∀ B, zsz (nI (bpairs B)) ≤ 16 := fun B => zcnt_le _ 16
            refine lv_iload hx hb dX3_drawn_66 (lv_at hl 7 rfl) ?_
            refine lv_iload_n hx hb dX3_drawn_68 rfl (lv_at hl 1 rfl) ?_
            refine zc_ge (tgt := 154) hx hb (by omega) (by omega) dX3_drawn_69 (by decide) (fun c_69 => ?_) (fun c_69 => ?_)
            · obtain rfl : n = k := by omega
              refine lv_iload_n hx hb dX3_drawn_154 rfl (lv_at hl 3 rfl) ?_
              refine zi_ne (tgt := 163) hx hb (by omega) dX3_drawn_155 (by decide) (fun c_155 => ?_) (fun c_155 => ?_)
              · refine lv_iload hx hb dX3_drawn_163 (lv_at hl 6 rfl) ?_
                exact W.iret (v := nI ((bdr (S.2.1 4) x n).2.2.2)) hx hb hr (fun t ht hW => ⟨⟨nI ((bdr (S.2.1 4) x n).2.2.2), (fi, va_up cn 6 (nF (bdr (S.2.1 4) x n).2.1), xl), rfl, (by unfold opDrawn; (try rw [zn_nI (n := n) (by omega)]); (try rw [zn_nI (n := x) (by omega)]); (try rw [zn_nI (n := w) (by omega)]); rw [zif_t c_4, zif_t c_19, zif_t c_31, zif_t c_41, zif_f c_155]; exact ⟨rfl, ⟨hf0, hf8, hf12, hf19, hf29, hc1, hc2, hc3, hc4, hc7, hc11, hc26, hc27, hc28⟩, ⟨_, _, _, _, _, _, _, _, _, hc5, rfl, hc9, hc10, hc24, hc25, hc21, hc22, hf23⟩⟩), by rw [ht]; exact hP, hD⟩, hS.F ht⟩) hS.2.2 dX3_drawn_165
              · refine lv_iload hx hb dX3_drawn_158 (lv_at hl 5 rfl) ?_
                refine lv_goto (tgt := 165) hx hb dX3_drawn_160 (by decide) ?_
                exact W.iret (v := nI ((bdr (S.2.1 4) x n).2.2.1)) hx hb hr (fun t ht hW => ⟨⟨nI ((bdr (S.2.1 4) x n).2.2.1), (fi, va_up cn 6 (nF (bdr (S.2.1 4) x n).2.1), xl), rfl, (by unfold opDrawn; (try rw [zn_nI (n := n) (by omega)]); (try rw [zn_nI (n := x) (by omega)]); (try rw [zn_nI (n := w) (by omega)]); rw [zif_t c_4, zif_t c_19, zif_t c_31, zif_t c_41, zif_t c_155]; exact ⟨rfl, ⟨hf0, hf8, hf12, hf19, hf29, hc1, hc2, hc3, hc4, hc7, hc11, hc26, hc27, hc28⟩, ⟨_, _, _, _, _, _, _, _, _, hc5, rfl, hc9, hc10, hc24, hc25, hc21, hc22, hf23⟩⟩), by rw [ht]; exact hP, hD⟩, hS.F ht⟩) hS.2.2 dX3_drawn_165
            · refine lv_lload hx hb dX3_drawn_72 (lv_at hl 4 rfl) ?_
              refine lv_ldc2 hx hb hown (hts _ q1677) dX3_drawn_74 ?_
              refine ztl (show (16807 : Int64) = lN 16807 from rfl) ?_
              refine lv_lmul hx hb dX3_drawn_77 ?_
              refine ztl (lN_mul ((bdr (S.2.1 4) x k).1) 16807) ?_
              refine lv_ldc2 hx hb hown (hts _ q1678) dX3_drawn_78 ?_
              refine ztl (show (2147483647 : Int64) = lN 2147483647 from rfl) ?_
              refine lv_lrem hx hb dX3_drawn_81 (by decide) ?_
              refine ztl (pk_lRem (a := ((bdr (S.2.1 4) x k).1) * 16807) (b := 2147483647) (by omega) (by omega) (by omega)) ?_
              refine lv_lstore (lv' := [(4, .long (lN ((((bdr (S.2.1 4) x k).1) * 16807) % 2147483647))), (0, .ref (ad 0)), (1, .int (nI n)), (2, .int (nI x)), (3, .int (nI w)), (6, .int (nI ((bdr (S.2.1 4) x k).2.2.1))), (7, .int (nI ((bdr (S.2.1 4) x k).2.2.2))), (8, .int (nI k))]) hx hb dX3_drawn_82 hl (by decide) rfl (fun ls hl => ?_)
              refine lv_lload hx hb dX3_drawn_84 (lv_at hl 0 rfl) ?_
              refine lv_aload_n hx hb dX3_drawn_86 rfl (lv_at hl 1 rfl) ?_
              refine va_get (D := g.1) (ci := 3) (v := .ref (ad 6)) (C := RX3) (T := TX3) (N := 30) hx hb hts in_X3 hown hK hP 0 rfl rfl 6 (by decide) (hts _ q1303) (fun _ h9 => h9) rfl dX3_drawn_87 ?_
              refine lv_iconst (v := nI 3) hx hb dX3_drawn_90 (by decide) ?_
              refine zald hx hb hK hP 6 0 rfl rfl (j := 3) (by omega) (by decide) dX3_drawn_91 ?_
              refine zti (show (nF ((bdr (S.2.1 4) x k).2.1)) 3 = nI (((bdr (S.2.1 4) x k).2.1) 3) from rfl) ?_
              refine lv_i2l (v := lN (((bdr (S.2.1 4) x k).2.1) 3)) hx hb dX3_drawn_92 (nI_l (by omega)) ?_
              refine lv_lrem hx hb dX3_drawn_93 (fun z => absurd ((pk_lEQ (a := ((bdr (S.2.1 4) x k).2.1) 3) (b := 0) (by omega) (by decide)).mp z) (by omega)) ?_
              refine ztl (pk_lRem (a := (((bdr (S.2.1 4) x k).1) * 16807) % 2147483647) (b := ((bdr (S.2.1 4) x k).2.1) 3) (by omega) (by omega) (by omega)) ?_
              refine lv_l2i (v := nI (((((bdr (S.2.1 4) x k).1) * 16807) % 2147483647) % (((bdr (S.2.1 4) x k).2.1) 3))) hx hb dX3_drawn_94 (lN_i _) ?_
              refine lv_istore (lv' := [(9, .int (nI (((((bdr (S.2.1 4) x k).1) * 16807) % 2147483647) % (((bdr (S.2.1 4) x k).2.1) 3)))), (4, .long (lN ((((bdr (S.2.1 4) x k).1) * 16807) % 2147483647))), (0, .ref (ad 0)), (1, .int (nI n)), (2, .int (nI x)), (3, .int (nI w)), (6, .int (nI ((bdr (S.2.1 4) x k).2.2.1))), (7, .int (nI ((bdr (S.2.1 4) x k).2.2.2))), (8, .int (nI k))]) hx hb dX3_drawn_95 hl (by decide) rfl (fun ls hl => ?_)
              refine lv_aload_n hx hb dX3_drawn_97 rfl (lv_at hl 2 rfl) ?_
              have hmo := Nat.mod_lt ((bdr (S.2.1 4) x k).1 * 16807 % 2147483647) (show 0 < (bdr (S.2.1 4) x k).2.1 3 by omega)
              refine va_get (D := g.1) (ci := 3) (v := .ref (ad 6)) (C := RX3) (T := TX3) (N := 30) hx hb hts in_X3 hown hK hP 0 rfl rfl 6 (by decide) (hts _ q1303) (fun _ h9 => h9) rfl dX3_drawn_98 ?_
              refine lv_iconst (v := nI 4) hx hb dX3_drawn_101 (by decide) ?_
              refine lv_iload hx hb dX3_drawn_102 (lv_at hl 0 rfl) ?_
              refine lv_iadd hx hb dX3_drawn_104 ?_
              refine zti (nI_add 4 (((((bdr (S.2.1 4) x k).1) * 16807) % 2147483647) % (((bdr (S.2.1 4) x k).2.1) 3))) ?_
              refine lv_lload hx hb dX3_drawn_105 (lv_at hl 1 rfl) ?_
              refine lv_ldc2 hx hb hown (hts _ q1679) dX3_drawn_107 ?_
              refine ztl (show (16 : Int64) = lN 16 from rfl) ?_
              refine lv_ldiv hx hb dX3_drawn_110 (by decide) ?_
              refine ztl (pk_lDiv (a := (((bdr (S.2.1 4) x k).1) * 16807) % 2147483647) (b := 16) (by omega) (by omega) (by omega)) ?_
              refine lv_aload_n hx hb dX3_drawn_111 rfl (lv_at hl 2 rfl) ?_
              refine va_get (D := g.1) (ci := 3) (v := .ref (ad 6)) (C := RX3) (T := TX3) (N := 30) hx hb hts in_X3 hown hK hP 0 rfl rfl 6 (by decide) (hts _ q1303) (fun _ h9 => h9) rfl dX3_drawn_112 ?_
              refine lv_iconst (v := nI 0) hx hb dX3_drawn_115 (by decide) ?_
              refine zald hx hb hK hP 6 0 rfl rfl (j := 0) (by omega) (by decide) dX3_drawn_116 ?_
              refine zti (show (nF ((bdr (S.2.1 4) x k).2.1)) 0 = nI (((bdr (S.2.1 4) x k).2.1) 0) from rfl) ?_
              refine lv_i2l (v := lN (((bdr (S.2.1 4) x k).2.1) 0)) hx hb dX3_drawn_117 (nI_l (by omega)) ?_
              refine lv_lrem hx hb dX3_drawn_118 (fun z => absurd ((pk_lEQ (a := ((bdr (S.2.1 4) x k).2.1) 0) (b := 0) (by omega) (by decide)).mp z) (by omega)) ?_
              refine ztl (pk_lRem (a := ((((bdr (S.2.1 4) x k).1) * 16807) % 2147483647) / 16) (b := ((bdr (S.2.1 4) x k).2.1) 0) (by omega) (by omega) (by omega)) ?_
              refine lv_l2i (v := nI ((((((bdr (S.2.1 4) x k).1) * 16807) % 2147483647) / 16) % (((bdr (S.2.1 4) x k).2.1) 0))) hx hb dX3_drawn_119 (lN_i _) ?_
              refine zast (f := nF (bdr (S.2.1 4) x k).2.1) hx hb hK hP hD hS 6 0 rfl rfl (j := 4 + (((((bdr (S.2.1 4) x k).1) * 16807) % 2147483647) % (((bdr (S.2.1 4) x k).2.1) 3))) (by omega) (by decide) dX3_drawn_120 (fun H locs hP hD hS => ?_)
              rw [nF_up] at hP hD
              have hP : va_P g.1 zCL (mW g ad fi (va_up cn 6 (nF (va_up ((bdr (S.2.1 4) x k).2.1) (4 + (((((bdr (S.2.1 4) x k).1) * 16807) % 2147483647) % (((bdr (S.2.1 4) x k).2.1) 3))) ((((((bdr (S.2.1 4) x k).1) * 16807) % 2147483647) / 16) % (((bdr (S.2.1 4) x k).2.1) 0))))) xl) _ := hP
              have hD : va_D (mA ad s.heap.size) (mW g ad fi (va_up cn 6 (nF (va_up ((bdr (S.2.1 4) x k).2.1) (4 + (((((bdr (S.2.1 4) x k).1) * 16807) % 2147483647) % (((bdr (S.2.1 4) x k).2.1) 3))) ((((((bdr (S.2.1 4) x k).1) * 16807) % 2147483647) / 16) % (((bdr (S.2.1 4) x k).2.1) 0))))) xl) := hD
              refine lv_iload hx hb dX3_drawn_121 (lv_at hl 6 rfl) ?_
              refine lv_aload_n hx hb dX3_drawn_123 rfl (lv_at hl 2 rfl) ?_
              refine va_get (D := g.1) (ci := 3) (v := .ref (ad 6)) (C := RX3) (T := TX3) (N := 30) hx hb hts in_X3 hown hK hP 0 rfl rfl 6 (by decide) (hts _ q1303) (fun _ h9 => h9) rfl dX3_drawn_124 ?_
              have hdm : ((bdr (S.2.1 4) x k).1 * 16807 % 2147483647) < 2147483647 := Nat.mod_lt _ (by decide)
              have hBq : bOK (va_up (bdr (S.2.1 4) x k).2.1 (4 + ((bdr (S.2.1 4) x k).1 * 16807 % 2147483647) % (bdr (S.2.1 4) x k).2.1 3) (((bdr (S.2.1 4) x k).1 * 16807 % 2147483647) / 16 % (bdr (S.2.1 4) x k).2.1 0)) := hdB.trRow (Nat.lt_of_lt_of_le (Nat.mod_lt _ (by omega)) (by omega)) (Nat.mod_lt _ (by omega))
              have hQ_127 : va_P g.1 zCL [(ad 6, .inl (g.2 0, 44, .inl (nF (va_up ((bdr (S.2.1 4) x k).2.1) (4 + (((((bdr (S.2.1 4) x k).1) * 16807) % 2147483647) % (((bdr (S.2.1 4) x k).2.1) 3))) ((((((bdr (S.2.1 4) x k).1) * 16807) % 2147483647) / 16) % (((bdr (S.2.1 4) x k).2.1) 0))))))] _ := hP.sub [6] rfl
              refine vp_callSi (W.runS (As := [.ref (ad 6)]) (rest := [.int (nI ((bdr (S.2.1 4) x k).2.2.1))]) ⟨hx, hb, hml, hown, hts⟩ (m_X3_pairsOf l g (ad 6) (va_up ((bdr (S.2.1 4) x k).2.1) (4 + (((((bdr (S.2.1 4) x k).1) * 16807) % 2147483647) % (((bdr (S.2.1 4) x k).2.1) 3))) ((((((bdr (S.2.1 4) x k).1) * 16807) % 2147483647) / 16) % (((bdr (S.2.1 4) x k).2.1) 0)))  hBq) (va_cwS 1 hts (lw_S q1614 q1615 q69 q1616) rfl rfl rfl hdS_X3_pairsOf ⟨Nat.le_of_ble_eq_true rfl, Nat.le_of_ble_eq_true rfl⟩) (zpreS hK hN hQ_127) rfl rfl hl.1 rfl (lv_room (Nat.le_of_ble_eq_true rfl)) dX3_drawn_127 ⟨Nat.le_of_ble_eq_true rfl, Nat.le_of_ble_eq_true rfl⟩) (fun r_127 hr_127 => ?_)
              subst hr_127
              refine vp_callSi (W.runS (As := [.int (nI (bpairs (va_up ((bdr (S.2.1 4) x k).2.1) (4 + (((((bdr (S.2.1 4) x k).1) * 16807) % 2147483647) % (((bdr (S.2.1 4) x k).2.1) 3))) ((((((bdr (S.2.1 4) x k).1) * 16807) % 2147483647) / 16) % (((bdr (S.2.1 4) x k).2.1) 0)))))]) (rest := [.int (nI ((bdr (S.2.1 4) x k).2.2.1))]) ⟨hx, hb, hml, hown, hts⟩ (m_X3_sizeOf l g (nI (bpairs (va_up ((bdr (S.2.1 4) x k).2.1) (4 + (((((bdr (S.2.1 4) x k).1) * 16807) % 2147483647) % (((bdr (S.2.1 4) x k).2.1) 3))) ((((((bdr (S.2.1 4) x k).1) * 16807) % 2147483647) / 16) % (((bdr (S.2.1 4) x k).2.1) 0)))))) (va_cwS 1 hts (lw_S q1620 q1621 q69 q1622) rfl rfl rfl hdS_X3_sizeOf ⟨Nat.le_of_ble_eq_true rfl, Nat.le_of_ble_eq_true rfl⟩) (zpreS hK hN trivial) rfl rfl hl.1 rfl (lv_room (Nat.le_of_ble_eq_true rfl)) dX3_drawn_130 ⟨Nat.le_of_ble_eq_true rfl, Nat.le_of_ble_eq_true rfl⟩) (fun r_130 hr_130 => ?_)
              subst hr_130
              refine lv_iadd hx hb dX3_drawn_133 ?_
              refine zti (nI_add ((bdr (S.2.1 4) x k).2.2.1) (zsz (nI (bpairs (va_up ((bdr (S.2.1 4) x k).2.1) (4 + (((((bdr (S.2.1 4) x k).1) * 16807) % 2147483647) % (((bdr (S.2.1 4) x k).2.1) 3))) ((((((bdr (S.2.1 4) x k).1) * 16807) % 2147483647) / 16) % (((bdr (S.2.1 4) x k).2.1) 0))))))) ?_
              refine lv_istore (lv' := [(6, .int (nI ((bdr (S.2.1 4) x k).2.2.1 + (zsz (nI (bpairs (va_up ((bdr (S.2.1 4) x k).2.1) (4 + (((((bdr (S.2.1 4) x k).1) * 16807) % 2147483647) % (((bdr (S.2.1 4) x k).2.1) 3))) ((((((bdr (S.2.1 4) x k).1) * 16807) % 2147483647) / 16) % (((bdr (S.2.1 4) x k).2.1) 0))))))))), (9, .int (nI (((((bdr (S.2.1 4) x k).1) * 16807) % 2147483647) % (((bdr (S.2.1 4) x k).2.1) 3)))), (4, .long (lN ((((bdr (S.2.1 4) x k).1) * 16807) % 2147483647))), (0, .ref (ad 0)), (1, .int (nI n)), (2, .int (nI x)), (3, .int (nI w)), (7, .int (nI ((bdr (S.2.1 4) x k).2.2.2))), (8, .int (nI k))]) hx hb dX3_drawn_134 hl (by decide) rfl (fun ls hl => ?_)
              refine lv_iload hx hb dX3_drawn_136 (lv_at hl 7 rfl) ?_
              refine lv_aload_n hx hb dX3_drawn_138 rfl (lv_at hl 3 rfl) ?_
              refine va_get (D := g.1) (ci := 3) (v := .ref (ad 6)) (C := RX3) (T := TX3) (N := 30) hx hb hts in_X3 hown hK hP 0 rfl rfl 6 (by decide) (hts _ q1303) (fun _ h9 => h9) rfl dX3_drawn_139 ?_
              have hQ_142 : va_P g.1 zCL [(ad 6, .inl (g.2 0, 44, .inl (nF (va_up ((bdr (S.2.1 4) x k).2.1) (4 + (((((bdr (S.2.1 4) x k).1) * 16807) % 2147483647) % (((bdr (S.2.1 4) x k).2.1) 3))) ((((((bdr (S.2.1 4) x k).1) * 16807) % 2147483647) / 16) % (((bdr (S.2.1 4) x k).2.1) 0))))))] _ := hP.sub [6] rfl
              refine vp_callSi (W.runS (As := [.ref (ad 6)]) (rest := [.int (nI ((bdr (S.2.1 4) x k).2.2.2))]) ⟨hx, hb, hml, hown, hts⟩ (m_X3_pairsOf l g (ad 6) (va_up ((bdr (S.2.1 4) x k).2.1) (4 + (((((bdr (S.2.1 4) x k).1) * 16807) % 2147483647) % (((bdr (S.2.1 4) x k).2.1) 3))) ((((((bdr (S.2.1 4) x k).1) * 16807) % 2147483647) / 16) % (((bdr (S.2.1 4) x k).2.1) 0)))  hBq) (va_cwS 1 hts (lw_S q1614 q1615 q69 q1616) rfl rfl rfl hdS_X3_pairsOf ⟨Nat.le_of_ble_eq_true rfl, Nat.le_of_ble_eq_true rfl⟩) (zpreS hK hN hQ_142) rfl rfl hl.1 rfl (lv_room (Nat.le_of_ble_eq_true rfl)) dX3_drawn_142 ⟨Nat.le_of_ble_eq_true rfl, Nat.le_of_ble_eq_true rfl⟩) (fun r_142 hr_142 => ?_)
              subst hr_142
              refine lv_iand hx hb dX3_drawn_145 ?_
              refine zti (z_and ((bdr (S.2.1 4) x k).2.2.2) (bpairs (va_up ((bdr (S.2.1 4) x k).2.1) (4 + (((((bdr (S.2.1 4) x k).1) * 16807) % 2147483647) % (((bdr (S.2.1 4) x k).2.1) 3))) ((((((bdr (S.2.1 4) x k).1) * 16807) % 2147483647) / 16) % (((bdr (S.2.1 4) x k).2.1) 0))))) ?_
              refine lv_istore (lv' := [(7, .int (nI (((bdr (S.2.1 4) x k).2.2.2) &&& (bpairs (va_up ((bdr (S.2.1 4) x k).2.1) (4 + (((((bdr (S.2.1 4) x k).1) * 16807) % 2147483647) % (((bdr (S.2.1 4) x k).2.1) 3))) ((((((bdr (S.2.1 4) x k).1) * 16807) % 2147483647) / 16) % (((bdr (S.2.1 4) x k).2.1) 0))))))), (6, .int (nI ((bdr (S.2.1 4) x k).2.2.1 + (zsz (nI (bpairs (va_up ((bdr (S.2.1 4) x k).2.1) (4 + (((((bdr (S.2.1 4) x k).1) * 16807) % 2147483647) % (((bdr (S.2.1 4) x k).2.1) 3))) ((((((bdr (S.2.1 4) x k).1) * 16807) % 2147483647) / 16) % (((bdr (S.2.1 4) x k).2.1) 0))))))))), (9, .int (nI (((((bdr (S.2.1 4) x k).1) * 16807) % 2147483647) % (((bdr (S.2.1 4) x k).2.1) 3)))), (4, .long (lN ((((bdr (S.2.1 4) x k).1) * 16807) % 2147483647))), (0, .ref (ad 0)), (1, .int (nI n)), (2, .int (nI x)), (3, .int (nI w)), (8, .int (nI k))]) hx hb dX3_drawn_146 hl (by decide) rfl (fun ls hl => ?_)
              refine lv_iinc (v := nI (k + 1)) (lv' := [(8, .int (nI (k + 1))), (7, .int (nI (((bdr (S.2.1 4) x k).2.2.2) &&& (bpairs (va_up ((bdr (S.2.1 4) x k).2.1) (4 + (((((bdr (S.2.1 4) x k).1) * 16807) % 2147483647) % (((bdr (S.2.1 4) x k).2.1) 3))) ((((((bdr (S.2.1 4) x k).1) * 16807) % 2147483647) / 16) % (((bdr (S.2.1 4) x k).2.1) 0))))))), (6, .int (nI ((bdr (S.2.1 4) x k).2.2.1 + (zsz (nI (bpairs (va_up ((bdr (S.2.1 4) x k).2.1) (4 + (((((bdr (S.2.1 4) x k).1) * 16807) % 2147483647) % (((bdr (S.2.1 4) x k).2.1) 3))) ((((((bdr (S.2.1 4) x k).1) * 16807) % 2147483647) / 16) % (((bdr (S.2.1 4) x k).2.1) 0))))))))), (9, .int (nI (((((bdr (S.2.1 4) x k).1) * 16807) % 2147483647) % (((bdr (S.2.1 4) x k).2.1) 3)))), (4, .long (lN ((((bdr (S.2.1 4) x k).1) * 16807) % 2147483647))), (0, .ref (ad 0)), (1, .int (nI n)), (2, .int (nI x)), (3, .int (nI w))]) hx hb dX3_drawn_148 hl (k := 8) rfl (nI_add k 1) (by decide) rfl (fun ls hl => ?_)
              refine lv_goto (tgt := 66) hx hb dX3_drawn_151 (by decide) ?_
              exact ih_66 (by omega) _ _ _ _ _ ⟨rfl, rfl, hP, hD, hS, lv_sub hl [5, 6, 7, 8, 4, 2, 1, 0] rfl⟩
          · rw [mW_up (cn := va_up cn 6 (nF (S.2.1 4))) (k := 6) (f := nF (bdr (S.2.1 4) x 0).2.1) (rfl)] at hP
            rw [mW_up (cn := va_up cn 6 (nF (S.2.1 4))) (k := 6) (f := nF (bdr (S.2.1 4) x 0).2.1) (rfl)] at hD
            have hP : va_P g.1 zCL (mW g ad fi (va_up cn 6 (nF (bdr (S.2.1 4) x 0).2.1)) xl) _ := hP
            have hD : va_D (mA ad s.heap.size) (mW g ad fi (va_up cn 6 (nF (bdr (S.2.1 4) x 0).2.1)) xl) := hD
            exact ⟨rfl, rfl, hP, hD, hS, lv_sub hl [4, 5, 6, 7, 3, 2, 1, 0] rfl⟩
        · refine lv_ldc hx hb hown (hts _ q1401) dX3_drawn_44 ?_
          exact W.iret (v := -1000001) hx hb hr (fun t ht hW => ⟨⟨-1000001, (fi, cn, xl), rfl, (by unfold opDrawn; rw [zif_t c_4, zif_t c_19, zif_t c_31, zif_f c_41]; exact ⟨rfl, ⟨hf0, hf8, hf12, hf19, hf29, hc1, hc2, hc3, hc4, hc7, hc11, hc26, hc27, hc28⟩, ⟨_, _, _, _, _, _, _, _, _, hc5, hc6, hc9, hc10, hc24, hc25, hc21, hc22, hf23⟩⟩), by rw [ht]; exact hP, hD⟩, hS.F ht⟩) hS.2.2 dX3_drawn_46
  · refine lv_ldc hx hb hown (hts _ q1475) dX3_drawn_7 ?_
    exact W.iret (v := -1000002) hx hb hr (fun t ht hW => ⟨⟨-1000002, (fi, cn, xl), rfl, (by unfold opDrawn; rw [zif_f c_4]; exact ⟨rfl, ⟨hf0, hf8, hf12, hf19, hf29, hc1, hc2, hc3, hc4, hc7, hc11, hc26, hc27, hc28⟩, ⟨_, _, _, _, _, _, _, _, _, hc5, hc6, hc9, hc10, hc24, hc25, hc21, hc22, hf23⟩⟩), by rw [ht]; exact hP, hD⟩, hS.F ht⟩) hS.2.2 dX3_drawn_9
