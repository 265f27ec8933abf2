/-! the twin: rows that grow -/
set_option maxHeartbeats 4000000 in
set_option maxRecDepth 100000 in
theorem m_X3_inflated_4 (l : Launch) (g : zG) (ad : Nat → Nat) (fi : Nat → Int32) (cn : Nat → Nat → Int32) (xl : Nat → Nat → Int64) (sz : Nat) (B L P : Nat → Nat) (hcr : cn 4 = nF B) (hc9 : cn 9 = nF L) (hc10 : cn 10 = nF P) (hB : bOK B) (ll : List Nat) (hL : lHas L ll) (hA : lAll B ll) (h300 : ll.length ≤ 300) : Met l yX3_inflated (ws_ yX3_inflated cX3_inflated 7 (some .int)) ({ frames := 2, cells := 0, slots := 0, locals := 45 }) (zPc g [.ref (ad 0), .ref (ad 4), .int (nI ll.length)] (mH g ad fi cn xl sz)) (va_Qi (fun r9 u => r9 = zif ((gro B ll).length ≤ 300) (nI (gro B ll).length) (-1000003) ∧ ∃ L9 P9, u = (fi, va_up (va_up cn 9 (nF L9)) 10 (nF P9), xl) ∧ ((gro B ll).length ≤ 300 → lHas L9 (gro B ll))) (mB g ad sz) (mA ad sz)) 0 0 (mA ad sz) := by
  refine Met.ofW (cc := cX3_inflated) (maxL := 7) (ret := (some .int)) (by decide) rfl ?_
  intro p e s m args below meth c s₁ B0 hml hv
  obtain ⟨rfl, ⟨hK, hN⟩, hsz, hP, hD⟩ := hv
  have hx := B0.exec
  have hb := B0.bytes
  have hr := B0.returns
  have hts := atoms_spec (ws := ws_ yX3_inflated cX3_inflated 7 (some .int)) B0.pre
  have hts : ∀ w ∈ lw_all, w.before _ s = true := fun w h => hts w (List.mem_cons_of_mem _ h)
  have hown : s.vm.findClass RX3 = some m.cls := findClass_of_methodNamed B0.named
  have hlocks := B0.notSynchronized
  subst hsz
  have hD := mD_self s.heap.size hD
  have hS : va_S (mA ad s.heap.size) s.heap s.heap [] := va_S.rf
  have hl := lv_entry ([.ref (ad 0), .ref (ad 4), .int (nI ll.length)]) (n := 7) (Nat.le_of_ble_eq_true rfl)
  rw [lg_entry_eq]
  generalize (lg_sl ([.ref (ad 0), .ref (ad 4), .int (nI ll.length)]) ++ List.replicate (7 - (lg_sl ([.ref (ad 0), .ref (ad 4), .int (nI ll.length)])).length) Slot.unset).toArray = ls at hl ⊢
  have hl : lv_has ls 7 [(0, .ref (ad 0)), (1, .ref (ad 4)), (2, .int (nI ll.length))] := hl
  have h0 : B 0 ≤ 4 := hB.n4
  have h3 : B 3 ≤ 8 := hB.r8
  refine lv_iconst (v := nI 0) hx hb dX3_inflated_0 (by decide) ?_
  refine lv_istore_n (lv' := [(3, .int (nI 0)), (0, .ref (ad 0)), (1, .ref (ad 4)), (2, .int (nI ll.length))]) hx hb dX3_inflated_1 rfl hl (by decide) rfl (fun ls hl => ?_)
  refine lv_iconst (v := nI 0) hx hb dX3_inflated_2 (by decide) ?_
  refine lv_istore (lv' := [(4, .int (nI 0)), (3, .int (nI 0)), (0, .ref (ad 0)), (1, .ref (ad 4)), (2, .int (nI ll.length))]) hx hb dX3_inflated_3 hl (by decide) rfl (fun ls hl => ?_)
  refine zloop (head := 5) (nL := 7) (ll.length) (fun k => [(0, .ref (ad 0)), (1, .ref (ad 4)), (2, .int (nI ll.length)), (3, .int (nI (zsum (fun q => bil B (L q)) k))), (4, .int (nI k))]) (fun k hv_k ih_5 ls hl => ?_) 0 (Nat.zero_le _) (lv_sub hl [2, 3, 4, 1, 0] rfl)
  have hz := hL.sle hB hA hv_k
  refine lv_iload hx hb dX3_inflated_5 (lv_at hl 4 rfl) ?_
  refine lv_iload_n hx hb dX3_inflated_7 rfl (lv_at hl 2 rfl) ?_
  refine zc_ge (tgt := 31) hx hb (by omega) (by omega) dX3_inflated_8 (by decide) (fun c_8 => ?_) (fun c_8 => ?_)
  · obtain rfl : ll.length = k := by omega
    rw [hL.len (B := B)] at hl hz
    refine lv_iload_n hx hb dX3_inflated_31 rfl (lv_at hl 3 rfl) ?_
    refine lv_sipush (v := nI 300) hx hb dX3_inflated_32 (by decide) ?_
    refine zc_le (tgt := 41) hx hb (by omega) (by omega) dX3_inflated_35 (by decide) (fun c_35 => ?_) (fun c_35 => ?_)
    · refine lv_iconst (v := nI 0) hx hb dX3_inflated_41 (by decide) ?_
      refine lv_istore (lv' := [(4, .int (nI 0)), (0, .ref (ad 0)), (1, .ref (ad 4)), (2, .int (nI ll.length)), (3, .int (nI ((gro B ll).length)))]) hx hb dX3_inflated_42 hl (by decide) rfl (fun ls hl => ?_)
      refine lv_iconst (v := nI 0) hx hb dX3_inflated_44 (by decide) ?_
      refine lv_istore (lv' := [(5, .int (nI 0)), (4, .int (nI 0)), (0, .ref (ad 0)), (1, .ref (ad 4)), (2, .int (nI ll.length)), (3, .int (nI ((gro B ll).length)))]) hx hb dX3_inflated_45 hl (by decide) rfl (fun ls hl => ?_)
      refine zloopW (head := 47) (ll.length) (fun k H locs cells slots ls => cells = 0 ∧ slots = 0 ∧ va_P g.1 zCL (mW g ad fi (va_up cn 10 (nF (va_cpy (fun j => (gro B ll).getD j 0) P 0 0 (zsum (fun q => bil B (L q)) k)))) xl) H ∧ va_D (mA ad s.heap.size) (mW g ad fi (va_up cn 10 (nF (va_cpy (fun j => (gro B ll).getD j 0) P 0 0 (zsum (fun q => bil B (L q)) k)))) xl) ∧ va_S (mA ad s.heap.size) s.heap H locs ∧ lv_has ls 7 [(0, .ref (ad 0)), (1, .ref (ad 4)), (2, .int (nI ll.length)), (3, .int (nI ((gro B ll).length))), (4, .int (nI (zsum (fun q => bil B (L q)) k))), (5, .int (nI k))]) (fun k hv_k ih_47 H locs cells slots ls hI => ?_) 0 (Nat.zero_le _) ?_
      · obtain ⟨rfl, rfl, hP, hD, hS, hl⟩ := hI
        refine lv_iload hx hb dX3_inflated_47 (lv_at hl 5 rfl) ?_
        refine lv_iload_n hx hb dX3_inflated_49 rfl (lv_at hl 2 rfl) ?_
        refine zc_ge (tgt := 107) hx hb (by omega) (by omega) dX3_inflated_50 (by decide) (fun c_50 => ?_) (fun c_50 => ?_)
        · obtain rfl : ll.length = k := by omega
          rw [hL.len (B := B)] at hl hP hD
          have hP : va_P g.1 zCL (mW g ad fi (va_up cn 10 (nF (va_cpy (fun j => (gro B ll).getD j 0) P 0 0 ((gro B ll).length)))) xl) _ := hP
          have hD : va_D (mA ad s.heap.size) (mW g ad fi (va_up cn 10 (nF (va_cpy (fun j => (gro B ll).getD j 0) P 0 0 ((gro B ll).length)))) xl) := hD
          refine lv_iconst (v := nI 0) hx hb dX3_inflated_107 (by decide) ?_
          refine lv_istore (lv' := [(5, .int (nI 0)), (0, .ref (ad 0)), (1, .ref (ad 4)), (2, .int (nI ll.length)), (3, .int (nI ((gro B ll).length))), (4, .int (nI ((gro B ll).length)))]) hx hb dX3_inflated_108 hl (by decide) rfl (fun ls hl => ?_)
          refine zloopW (head := 110) ((gro B ll).length) (fun k H locs cells slots ls => cells = 0 ∧ slots = 0 ∧ va_P g.1 zCL (mW g ad fi (va_up (va_up cn 9 (nF (va_cpy (va_cpy (fun j => (gro B ll).getD j 0) P 0 0 (gro B ll).length) L 0 0 k))) 10 (nF (va_cpy (fun j => (gro B ll).getD j 0) P 0 0 ((gro B ll).length)))) xl) H ∧ va_D (mA ad s.heap.size) (mW g ad fi (va_up (va_up cn 9 (nF (va_cpy (va_cpy (fun j => (gro B ll).getD j 0) P 0 0 (gro B ll).length) L 0 0 k))) 10 (nF (va_cpy (fun j => (gro B ll).getD j 0) P 0 0 ((gro B ll).length)))) xl) ∧ va_S (mA ad s.heap.size) s.heap H locs ∧ lv_has ls 7 [(0, .ref (ad 0)), (1, .ref (ad 4)), (2, .int (nI ll.length)), (3, .int (nI ((gro B ll).length))), (5, .int (nI k))]) (fun k hv_k ih_110 H locs cells slots ls hI => ?_) 0 (Nat.zero_le _) ?_
          · obtain ⟨rfl, rfl, hP, hD, hS, hl⟩ := hI
            refine lv_iload hx hb dX3_inflated_110 (lv_at hl 4 rfl) ?_
            refine lv_iload_n hx hb dX3_inflated_112 rfl (lv_at hl 3 rfl) ?_
            refine zc_ge (tgt := 136) hx hb (by omega) (by omega) dX3_inflated_113 (by decide) (fun c_113 => ?_) (fun c_113 => ?_)
            · obtain rfl : (gro B ll).length = k := by omega
              refine lv_iload_n hx hb dX3_inflated_136 rfl (lv_at hl 3 rfl) ?_
              exact W.iret (v := nI ((gro B ll).length)) hx hb hr (fun t ht hW => ⟨⟨nI ((gro B ll).length), (fi, va_up (va_up cn 9 (nF (va_cpy (va_cpy (fun j => (gro B ll).getD j 0) P 0 0 (gro B ll).length) L 0 0 ((gro B ll).length)))) 10 (nF (va_cpy (fun j => (gro B ll).getD j 0) P 0 0 ((gro B ll).length))), xl), rfl, ⟨by rw [zif_t c_35], _, _, rfl, fun _ k hk => zcpy2 hk⟩, by rw [ht]; exact hP, hD⟩, hS.F ht⟩) hS.2.2 dX3_inflated_137
            · refine lv_aload_n hx hb dX3_inflated_116 rfl (lv_at hl 0 rfl) ?_
              refine va_get (D := g.1) (ci := 3) (v := .ref (ad 9)) (C := RX3) (T := TX3) (N := 30) hx hb hts in_X3 hown hK hP 0 rfl rfl 9 (by decide) (hts _ q1306) (fun _ h9 => h9) rfl dX3_inflated_117 ?_
              refine lv_iload hx hb dX3_inflated_120 (lv_at hl 4 rfl) ?_
              refine lv_aload_n hx hb dX3_inflated_122 rfl (lv_at hl 0 rfl) ?_
              refine va_get (D := g.1) (ci := 3) (v := .ref (ad 10)) (C := RX3) (T := TX3) (N := 30) hx hb hts in_X3 hown hK hP 0 rfl rfl 10 (by decide) (hts _ q1307) (fun _ h9 => h9) rfl dX3_inflated_123 ?_
              refine lv_iload hx hb dX3_inflated_126 (lv_at hl 4 rfl) ?_
              refine zald hx hb hK hP 9 0 rfl rfl (j := k) (by omega) (by decide) dX3_inflated_128 ?_
              refine zti (show (nF (va_cpy (fun j => (gro B ll).getD j 0) P 0 0 ((gro B ll).length))) k = nI ((va_cpy (fun j => (gro B ll).getD j 0) P 0 0 ((gro B ll).length)) k) from rfl) ?_
              refine zast (f := nF (va_cpy (va_cpy (fun j => (gro B ll).getD j 0) P 0 0 (gro B ll).length) L 0 0 k)) hx hb hK hP hD hS 8 0 rfl rfl (j := k) (by omega) (by decide) dX3_inflated_129 (fun H locs hP hD hS => ?_)
              rw [nF_up] at hP hD
              have hP : va_P g.1 zCL (mW g ad fi (va_up (va_up cn 9 (nF (va_up (va_cpy (va_cpy (fun j => (gro B ll).getD j 0) P 0 0 (gro B ll).length) L 0 0 k) k ((va_cpy (fun j => (gro B ll).getD j 0) P 0 0 ((gro B ll).length)) k)))) 10 (nF (va_cpy (fun j => (gro B ll).getD j 0) P 0 0 ((gro B ll).length)))) xl) _ := hP
              have hD : va_D (mA ad s.heap.size) (mW g ad fi (va_up (va_up cn 9 (nF (va_up (va_cpy (va_cpy (fun j => (gro B ll).getD j 0) P 0 0 (gro B ll).length) L 0 0 k) k ((va_cpy (fun j => (gro B ll).getD j 0) P 0 0 ((gro B ll).length)) k)))) 10 (nF (va_cpy (fun j => (gro B ll).getD j 0) P 0 0 ((gro B ll).length)))) xl) := hD
              refine lv_iinc (v := nI (k + 1)) (lv' := [(5, .int (nI (k + 1))), (0, .ref (ad 0)), (1, .ref (ad 4)), (2, .int (nI ll.length)), (3, .int (nI ((gro B ll).length)))]) hx hb dX3_inflated_130 hl (k := 4) rfl (nI_add k 1) (by decide) rfl (fun ls hl => ?_)
              refine lv_goto (tgt := 110) hx hb dX3_inflated_133 (by decide) ?_
              rw [show va_up (va_cpy (va_cpy (fun j => (gro B ll).getD j 0) P 0 0 (gro B ll).length) L 0 0 k) k (va_cpy (fun j => (gro B ll).getD j 0) P 0 0 (gro B ll).length k) = va_cpy (va_cpy (fun j => (gro B ll).getD j 0) P 0 0 (gro B ll).length) L 0 0 (k + 1) by have h9 := zcpy_s (va_cpy (fun j => (gro B ll).getD j 0) P 0 0 (gro B ll).length) L 0 0 k; rw [Nat.zero_add] at h9; exact h9] at hP hD
              exact ih_110 (by omega) _ _ _ _ _ ⟨rfl, rfl, hP, hD, hS, lv_sub hl [1, 2, 3, 4, 0] rfl⟩
          · rw [mW_up (cn := va_up cn 10 (nF (va_cpy (fun j => (gro B ll).getD j 0) P 0 0 ((gro B ll).length)))) (k := 9) (f := nF (va_cpy (va_cpy (fun j => (gro B ll).getD j 0) P 0 0 (gro B ll).length) L 0 0 0)) (by rw [zcpy_0]; exact hc9)] at hP
            rw [mW_up (cn := va_up cn 10 (nF (va_cpy (fun j => (gro B ll).getD j 0) P 0 0 ((gro B ll).length)))) (k := 9) (f := nF (va_cpy (va_cpy (fun j => (gro B ll).getD j 0) P 0 0 (gro B ll).length) L 0 0 0)) (by rw [zcpy_0]; exact hc9)] at hD
            have hP : va_P g.1 zCL (mW g ad fi (va_up (va_up cn 9 (nF (va_cpy (va_cpy (fun j => (gro B ll).getD j 0) P 0 0 (gro B ll).length) L 0 0 0))) 10 (nF (va_cpy (fun j => (gro B ll).getD j 0) P 0 0 ((gro B ll).length)))) xl) _ := hP
            have hD : va_D (mA ad s.heap.size) (mW g ad fi (va_up (va_up cn 9 (nF (va_cpy (va_cpy (fun j => (gro B ll).getD j 0) P 0 0 (gro B ll).length) L 0 0 0))) 10 (nF (va_cpy (fun j => (gro B ll).getD j 0) P 0 0 ((gro B ll).length)))) xl) := hD
            exact ⟨rfl, rfl, hP, hD, hS, lv_sub hl [1, 2, 3, 4, 0] rfl⟩
        · have hLk := hL.lt hA (show k < ll.length by omega)
          have hLkk := (hB.kd hLk).2
          have hLw := (hB.wl hLk).2
          have hLl := (hB.il hLk).2
          have hzl := zsum_lt (fun q => bil B (L q)) (show k < ll.length by omega)
          rw [hL.len (B := B)] at hzl
          refine lv_iconst (v := nI 0) hx hb dX3_inflated_53 (by decide) ?_
          refine lv_istore (lv' := [(6, .int (nI 0)), (0, .ref (ad 0)), (1, .ref (ad 4)), (2, .int (nI ll.length)), (3, .int (nI ((gro B ll).length))), (4, .int (nI (zsum (fun q => bil B (L q)) k))), (5, .int (nI k))]) hx hb dX3_inflated_54 hl (by decide) rfl (fun ls hl => ?_)
          refine zloopW (head := 56) (bil B (L k)) (fun i H locs cells slots ls => cells = 0 ∧ slots = 0 ∧ va_P g.1 zCL (mW g ad fi (va_up cn 10 (nF (va_cpy (fun j => (gro B ll).getD j 0) P 0 0 (zsum (fun q => bil B (L q)) k + i)))) xl) H ∧ va_D (mA ad s.heap.size) (mW g ad fi (va_up cn 10 (nF (va_cpy (fun j => (gro B ll).getD j 0) P 0 0 (zsum (fun q => bil B (L q)) k + i)))) xl) ∧ va_S (mA ad s.heap.size) s.heap H locs ∧ lv_has ls 7 [(0, .ref (ad 0)), (1, .ref (ad 4)), (2, .int (nI ll.length)), (3, .int (nI ((gro B ll).length))), (4, .int (nI (zsum (fun q => bil B (L q)) k + i))), (5, .int (nI k)), (6, .int (nI i))]) (fun i hv_i ih_56 H locs cells slots ls hI => ?_) 0 (Nat.zero_le _) ?_
          · obtain ⟨rfl, rfl, hP, hD, hS, hl⟩ := hI
            refine lv_iload hx hb dX3_inflated_56 (lv_at hl 6 rfl) ?_
            refine lv_aload_n hx hb dX3_inflated_58 rfl (lv_at hl 1 rfl) ?_
            refine lv_aload_n hx hb dX3_inflated_59 rfl (lv_at hl 0 rfl) ?_
            refine va_get (D := g.1) (ci := 3) (v := .ref (ad 9)) (C := RX3) (T := TX3) (N := 30) hx hb hts in_X3 hown hK hP 0 rfl rfl 9 (by decide) (hts _ q1306) (fun _ h9 => h9) rfl dX3_inflated_60 ?_
            refine lv_iload hx hb dX3_inflated_63 (lv_at hl 5 rfl) ?_
            refine zald hx hb hK hP 8 0 rfl rfl (j := k) (by omega) (by decide) dX3_inflated_65 ?_
            refine zti (congrFun hc9 _) ?_
            refine zti (show (nF L) k = nI (L k) from rfl) ?_
            have hQ_66 : va_P g.1 zCL [(ad 4, .inl (g.2 0, 44, .inl (cn 4)))] _ := hP.sub [4] rfl
            rw [show _ = _ from hcr] at hQ_66
            refine vp_callSi (W.runS (As := [.ref (ad 4), .int (nI (L k))]) (rest := [.int (nI i)]) ⟨hx, hb, hml, hown, hts⟩ (m_X3_imageSize l g (ad 4) B (L k) (by omega) (by first | assumption | omega | exact (hB.kd (by omega)).2)) (va_cwS 2 hts (lw_S q1539 q1540 q69 q1541) rfl rfl rfl hdS_X3_imageSize ⟨Nat.le_of_ble_eq_true rfl, Nat.le_of_ble_eq_true rfl⟩) (zpreS hK hN hQ_66) rfl rfl hl.1 rfl (lv_room (Nat.le_of_ble_eq_true rfl)) dX3_inflated_66 ⟨Nat.le_of_ble_eq_true rfl, Nat.le_of_ble_eq_true rfl⟩) (fun r_66 hr_66 => ?_)
            subst hr_66
            refine zc_ge (tgt := 101) hx hb (by omega) (by omega) dX3_inflated_69 (by decide) (fun c_69 => ?_) (fun c_69 => ?_)
            · obtain rfl : bil B (L k) = i := by omega
              refine lv_iinc (v := nI (k + 1)) (lv' := [(5, .int (nI (k + 1))), (0, .ref (ad 0)), (1, .ref (ad 4)), (2, .int (nI ll.length)), (3, .int (nI ((gro B ll).length))), (4, .int (nI (zsum (fun q => bil B (L q)) k + (bil B (L k))))), (6, .int (nI (bil B (L k))))]) hx hb dX3_inflated_101 hl (k := 5) rfl (nI_add k 1) (by decide) rfl (fun ls hl => ?_)
              refine lv_goto (tgt := 47) hx hb dX3_inflated_104 (by decide) ?_
              exact ih_47 (by omega) _ _ _ _ _ ⟨rfl, rfl, hP, hD, hS, lv_sub hl [1, 2, 3, 4, 5, 0] rfl⟩
            · refine lv_aload_n hx hb dX3_inflated_72 rfl (lv_at hl 0 rfl) ?_
              refine va_get (D := g.1) (ci := 3) (v := .ref (ad 10)) (C := RX3) (T := TX3) (N := 30) hx hb hts in_X3 hown hK hP 0 rfl rfl 10 (by decide) (hts _ q1307) (fun _ h9 => h9) rfl dX3_inflated_73 ?_
              refine lv_iload hx hb dX3_inflated_76 (lv_at hl 4 rfl) ?_
              refine lv_aload_n hx hb dX3_inflated_78 rfl (lv_at hl 1 rfl) ?_
              refine lv_aload_n hx hb dX3_inflated_79 rfl (lv_at hl 0 rfl) ?_
              refine va_get (D := g.1) (ci := 3) (v := .ref (ad 9)) (C := RX3) (T := TX3) (N := 30) hx hb hts in_X3 hown hK hP 0 rfl rfl 9 (by decide) (hts _ q1306) (fun _ h9 => h9) rfl dX3_inflated_80 ?_
              refine lv_iload hx hb dX3_inflated_83 (lv_at hl 5 rfl) ?_
              refine zald hx hb hK hP 8 0 rfl rfl (j := k) (by omega) (by decide) dX3_inflated_85 ?_
              refine zti (congrFun hc9 _) ?_
              refine zti (show (nF L) k = nI (L k) from rfl) ?_
              refine lv_iload hx hb dX3_inflated_86 (lv_at hl 6 rfl) ?_
              have hQ_88 : va_P g.1 zCL [(ad 4, .inl (g.2 0, 44, .inl (cn 4)))] _ := hP.sub [4] rfl
              rw [show _ = _ from hcr] at hQ_88
              refine vp_callSi (W.runS (As := [.ref (ad 4), .int (nI (L k)), .int (nI i)]) (rest := [.int (nI (zsum (fun q => bil B (L q)) k + i)), .ref (ad 10)]) ⟨hx, hb, hml, hown, hts⟩ (m_X3_imageAt l g (ad 4) B (L k) i (by omega) (by first | assumption | omega | exact (hB.kd (by omega)).2) (by first | assumption | omega | exact (hB.wl (by omega)).2) (by first | assumption | omega)) (va_cwS 3 hts (lw_S q1542 q1543 q69 q1544) rfl rfl rfl hdS_X3_imageAt ⟨Nat.le_of_ble_eq_true rfl, Nat.le_of_ble_eq_true rfl⟩) (zpreS hK hN hQ_88) rfl rfl hl.1 rfl (lv_room (Nat.le_of_ble_eq_true rfl)) dX3_inflated_88 ⟨Nat.le_of_ble_eq_true rfl, Nat.le_of_ble_eq_true rfl⟩) (fun r_88 hr_88 => ?_)
              subst hr_88
              refine zast (f := nF (va_cpy (fun j => (gro B ll).getD j 0) P 0 0 (zsum (fun q => bil B (L q)) k + i))) hx hb hK hP hD hS 9 0 rfl rfl (j := zsum (fun q => bil B (L q)) k + i) (by omega) (by decide) dX3_inflated_91 (fun H locs hP hD hS => ?_)
              rw [nF_up] at hP hD
              have hP : va_P g.1 zCL (mW g ad fi (va_up cn 10 (nF (va_up (va_cpy (fun j => (gro B ll).getD j 0) P 0 0 (zsum (fun q => bil B (L q)) k + i)) (zsum (fun q => bil B (L q)) k + i) (bia B (L k) i)))) xl) _ := hP
              have hD : va_D (mA ad s.heap.size) (mW g ad fi (va_up cn 10 (nF (va_up (va_cpy (fun j => (gro B ll).getD j 0) P 0 0 (zsum (fun q => bil B (L q)) k + i)) (zsum (fun q => bil B (L q)) k + i) (bia B (L k) i)))) xl) := hD
              refine lv_iinc (v := nI (zsum (fun q => bil B (L q)) k + i + 1)) (lv' := [(4, .int (nI (zsum (fun q => bil B (L q)) k + i + 1))), (0, .ref (ad 0)), (1, .ref (ad 4)), (2, .int (nI ll.length)), (3, .int (nI ((gro B ll).length))), (5, .int (nI k)), (6, .int (nI i))]) hx hb dX3_inflated_92 hl (k := 4) rfl (nI_add (zsum (fun q => bil B (L q)) k + i) 1) (by decide) rfl (fun ls hl => ?_)
              refine lv_iinc (v := nI (i + 1)) (lv' := [(6, .int (nI (i + 1))), (4, .int (nI (zsum (fun q => bil B (L q)) k + i + 1))), (0, .ref (ad 0)), (1, .ref (ad 4)), (2, .int (nI ll.length)), (3, .int (nI ((gro B ll).length))), (5, .int (nI k))]) hx hb dX3_inflated_95 hl (k := 6) rfl (nI_add i 1) (by decide) rfl (fun ls hl => ?_)
              refine lv_goto (tgt := 56) hx hb dX3_inflated_98 (by decide) ?_
              rw [show va_up (va_cpy (fun j => (gro B ll).getD j 0) P 0 0 (zsum (fun q => bil B (L q)) k + i)) (zsum (fun q => bil B (L q)) k + i) (bia B (L k) i) = va_cpy (fun j => (gro B ll).getD j 0) P 0 0 (zsum (fun q => bil B (L q)) k + (i + 1)) by have h9 := zcpy_s (fun j => (gro B ll).getD j 0) P 0 0 (zsum (fun q => bil B (L q)) k + i); rw [Nat.zero_add] at h9; rw [← hL.at' (show k < ll.length by omega) (show i < bil B (L k) by omega)]; exact h9] at hP hD
              exact ih_56 (by omega) _ _ _ _ _ ⟨rfl, rfl, hP, hD, hS, lv_sub hl [2, 3, 4, 5, 1, 6, 0] rfl⟩
          · exact ⟨rfl, rfl, hP, hD, hS, lv_sub hl [1, 2, 3, 4, 5, 6, 0] rfl⟩
      · rw [mW_up (cn := cn) (k := 10) (f := nF (va_cpy (fun j => (gro B ll).getD j 0) P 0 0 (zsum (fun q => bil B (L q)) 0))) (by rw [show zsum (fun q => bil B (L q)) 0 = 0 from rfl, zcpy_0]; exact hc10)] at hP
        rw [mW_up (cn := cn) (k := 10) (f := nF (va_cpy (fun j => (gro B ll).getD j 0) P 0 0 (zsum (fun q => bil B (L q)) 0))) (by rw [show zsum (fun q => bil B (L q)) 0 = 0 from rfl, zcpy_0]; exact hc10)] at hD
        have hP : va_P g.1 zCL (mW g ad fi (va_up cn 10 (nF (va_cpy (fun j => (gro B ll).getD j 0) P 0 0 (zsum (fun q => bil B (L q)) 0)))) xl) _ := hP
        have hD : va_D (mA ad s.heap.size) (mW g ad fi (va_up cn 10 (nF (va_cpy (fun j => (gro B ll).getD j 0) P 0 0 (zsum (fun q => bil B (L q)) 0)))) xl) := hD
        exact ⟨rfl, rfl, hP, hD, hS, lv_sub hl [2, 3, 4, 5, 1, 0] rfl⟩
    · refine lv_ldc hx hb hown (hts _ q1424) dX3_inflated_38 ?_
      exact W.iret (v := -1000003) hx hb hr (fun t ht hW => ⟨⟨-1000003, (fi, cn, xl), rfl, ⟨by rw [zif_f c_35], L, P, Prod.ext rfl (Prod.ext (up2_id hc9 hc10) rfl), fun h => absurd h c_35⟩, by rw [ht]; exact hP, hD⟩, hS.F ht⟩) hS.2.2 dX3_inflated_40
  · have hLk := hL.lt hA (show k < ll.length by omega)
    have hLkk := (hB.kd hLk).2
    have hLw := (hB.wl hLk).2
    have hLl := (hB.il hLk).2
    refine lv_iload_n hx hb dX3_inflated_11 rfl (lv_at hl 3 rfl) ?_
    refine lv_aload_n hx hb dX3_inflated_12 rfl (lv_at hl 1 rfl) ?_
    refine lv_aload_n hx hb dX3_inflated_13 rfl (lv_at hl 0 rfl) ?_
    refine va_get (D := g.1) (ci := 3) (v := .ref (ad 9)) (C := RX3) (T := TX3) (N := 30) hx hb hts in_X3 hown hK hP 0 rfl rfl 9 (by decide) (hts _ q1306) (fun _ h9 => h9) rfl dX3_inflated_14 ?_
    refine lv_iload hx hb dX3_inflated_17 (lv_at hl 4 rfl) ?_
    refine zald hx hb hK hP 8 0 rfl rfl (j := k) (by omega) (by decide) dX3_inflated_19 ?_
    refine zti (congrFun hc9 _) ?_
    refine zti (show (nF L) k = nI (L k) from rfl) ?_
    have hQ_20 : va_P g.1 zCL [(ad 4, .inl (g.2 0, 44, .inl (cn 4)))] _ := hP.sub [4] rfl
    rw [show _ = _ from hcr] at hQ_20
    refine vp_callSi (W.runS (As := [.ref (ad 4), .int (nI (L k))]) (rest := [.int (nI (zsum (fun q => bil B (L q)) k))]) ⟨hx, hb, hml, hown, hts⟩ (m_X3_imageSize l g (ad 4) B (L k) (by omega) (by first | assumption | omega | exact (hB.kd (by omega)).2)) (va_cwS 2 hts (lw_S q1539 q1540 q69 q1541) rfl rfl rfl hdS_X3_imageSize ⟨Nat.le_of_ble_eq_true rfl, Nat.le_of_ble_eq_true rfl⟩) (zpreS hK hN hQ_20) rfl rfl hl.1 rfl (lv_room (Nat.le_of_ble_eq_true rfl)) dX3_inflated_20 ⟨Nat.le_of_ble_eq_true rfl, Nat.le_of_ble_eq_true rfl⟩) (fun r_20 hr_20 => ?_)
    subst hr_20
    refine lv_iadd hx hb dX3_inflated_23 ?_
    refine zti (nI_add (zsum (fun q => bil B (L q)) k) (bil B (L k))) ?_
    refine lv_istore_n (lv' := [(3, .int (nI (zsum (fun q => bil B (L q)) k + bil B (L k)))), (0, .ref (ad 0)), (1, .ref (ad 4)), (2, .int (nI ll.length)), (4, .int (nI k))]) hx hb dX3_inflated_24 rfl hl (by decide) rfl (fun ls hl => ?_)
    refine lv_iinc (v := nI (k + 1)) (lv' := [(4, .int (nI (k + 1))), (3, .int (nI (zsum (fun q => bil B (L q)) k + bil B (L k)))), (0, .ref (ad 0)), (1, .ref (ad 4)), (2, .int (nI ll.length))]) hx hb dX3_inflated_25 hl (k := 4) rfl (nI_add k 1) (by decide) rfl (fun ls hl => ?_)
    refine lv_goto (tgt := 5) hx hb dX3_inflated_28 (by decide) ?_
    exact ih_5 (by omega) _ (lv_sub hl [2, 3, 4, 1, 0] rfl)

set_option maxHeartbeats 4000000 in
set_option maxRecDepth 100000 in
theorem m_X3_layGrown_4 (l : Launch) (g : zG) (ad : Nat → Nat) (fi : Nat → Int32) (cn : Nat → Nat → Int32) (xl : Nat → Nat → Int64) (sz : Nat) (B L P : Nat → Nat) (hcr : cn 4 = nF B) (hc9 : cn 9 = nF L) (hc10 : cn 10 = nF P) (hB : bOK B) (n : Nat) (hn6 : n ≤ 6) : Met l yX3_layGrown (ws_ yX3_layGrown cX3_layGrown 5 (some .int)) ({ frames := 3, cells := 0, slots := 0, locals := 71 }) (zPc g [.ref (ad 0), .ref (ad 4), .int (nI n)] (mH g ad fi cn xl sz)) (va_Qi (fun r9 u => r9 = zif (gok B n) (nI (grl B n).length) (-1000003) ∧ ∃ L9 P9, u = (fi, va_up (va_up cn 9 (nF L9)) 10 (nF P9), xl) ∧ (gok B n → lHas L9 (grl B n))) (mB g ad sz) (mA ad sz)) 0 0 (mA ad sz) := by
  refine Met.ofW (cc := cX3_layGrown) (maxL := 5) (ret := (some .int)) (by decide) rfl ?_
  intro p e s m args below meth c s₁ B0 hml hv
  obtain ⟨rfl, ⟨hK, hN⟩, hsz, hP, hD⟩ := hv
  have hx := B0.exec
  have hb := B0.bytes
  have hr := B0.returns
  have hts := atoms_spec (ws := ws_ yX3_layGrown cX3_layGrown 5 (some .int)) B0.pre
  have hts : ∀ w ∈ lw_all, w.before _ s = true := fun w h => hts w (List.mem_cons_of_mem _ h)
  have hown : s.vm.findClass RX3 = some m.cls := findClass_of_methodNamed B0.named
  have hlocks := B0.notSynchronized
  subst hsz
  have hD := mD_self s.heap.size hD
  have hS : va_S (mA ad s.heap.size) s.heap s.heap [] := va_S.rf
  have hl := lv_entry ([.ref (ad 0), .ref (ad 4), .int (nI n)]) (n := 5) (Nat.le_of_ble_eq_true rfl)
  rw [lg_entry_eq]
  generalize (lg_sl ([.ref (ad 0), .ref (ad 4), .int (nI n)]) ++ List.replicate (5 - (lg_sl ([.ref (ad 0), .ref (ad 4), .int (nI n)])).length) Slot.unset).toArray = ls at hl ⊢
  have hl : lv_has ls 5 [(0, .ref (ad 0)), (1, .ref (ad 4)), (2, .int (nI n))] := hl
  have h0 : B 0 ≤ 4 := hB.n4
  have h3 : B 3 ≤ 8 := hB.r8
  refine lv_aload_n hx hb dX3_layGrown_0 rfl (lv_at hl 1 rfl) ?_
  refine lv_iconst (v := nI 3) hx hb dX3_layGrown_1 (by decide) ?_
  refine zald hx hb hK hP 4 0 rfl rfl (j := 3) (by omega) (by decide) dX3_layGrown_2 ?_
  refine zti (congrFun hcr _) ?_
  refine zti (show (nF B) 3 = nI (B 3) from rfl) ?_
  refine lv_istore_n (lv' := [(3, .int (nI (B 3))), (0, .ref (ad 0)), (1, .ref (ad 4)), (2, .int (nI n))]) hx hb dX3_layGrown_3 rfl hl (by decide) rfl (fun ls hl => ?_)
  refine lv_iconst (v := nI 0) hx hb dX3_layGrown_4 (by decide) ?_
  refine lv_istore (lv' := [(4, .int (nI 0)), (3, .int (nI (B 3))), (0, .ref (ad 0)), (1, .ref (ad 4)), (2, .int (nI n))]) hx hb dX3_layGrown_5 hl (by decide) rfl (fun ls hl => ?_)
  refine zloopW (head := 7) (B 3) (fun k H locs cells slots ls => cells = 0 ∧ slots = 0 ∧ va_P g.1 zCL (mW g ad fi (va_up cn 9 (nF (va_cpy (fun q => B (4 + q)) L 0 0 k))) xl) H ∧ va_D (mA ad s.heap.size) (mW g ad fi (va_up cn 9 (nF (va_cpy (fun q => B (4 + q)) L 0 0 k))) xl) ∧ va_S (mA ad s.heap.size) s.heap H locs ∧ lv_has ls 5 [(0, .ref (ad 0)), (1, .ref (ad 4)), (2, .int (nI n)), (3, .int (nI (B 3))), (4, .int (nI k))]) (fun k hv_k ih_7 H locs cells slots ls hI => ?_) 0 (Nat.zero_le _) ?_
  · obtain ⟨rfl, rfl, hP, hD, hS, hl⟩ := hI
    refine lv_iload hx hb dX3_layGrown_7 (lv_at hl 4 rfl) ?_
    refine lv_iload_n hx hb dX3_layGrown_9 rfl (lv_at hl 3 rfl) ?_
    refine zc_ge (tgt := 32) hx hb (by omega) (by omega) dX3_layGrown_10 (by decide) (fun c_10 => ?_) (fun c_10 => ?_)
    · obtain rfl : B 3 = k := by omega
      refine lv_iconst (v := nI 0) hx hb dX3_layGrown_32 (by decide) ?_
      refine lv_istore (lv' := [(4, .int (nI 0)), (0, .ref (ad 0)), (1, .ref (ad 4)), (2, .int (nI n)), (3, .int (nI (B 3)))]) hx hb dX3_layGrown_33 hl (by decide) rfl (fun ls hl => ?_)
      have hl : lv_has ls 5 [(4, .int (nI 0)), (0, .ref (ad 0)), (1, .ref (ad 4)), (2, .int (nI n)), (3, .int (zif (gok B 0) (nI (grl B 0).length) (-1000003)))] := by rw [zif_t (gok_0 hB), grl_0]; exact hl
      refine zloopW (head := 35) (n) (fun k H locs cells slots ls => ∃ (L0 : Nat → Nat) (P0 : Nat → Nat), cells = 0 ∧ slots = 0 ∧ va_P g.1 zCL (mW g ad fi (va_up (va_up cn 9 (nF L0)) 10 (nF P0)) xl) H ∧ va_D (mA ad s.heap.size) (mW g ad fi (va_up (va_up cn 9 (nF L0)) 10 (nF P0)) xl) ∧ va_S (mA ad s.heap.size) s.heap H locs ∧ lv_has ls 5 [(0, .ref (ad 0)), (1, .ref (ad 4)), (2, .int (nI n)), (3, .int (zif (gok B k) (nI (grl B k).length) (-1000003))), (4, .int (nI k))] ∧ (gok B k → lHas L0 (grl B k))) (fun k hv_k ih_35 H locs cells slots ls hI => ?_) 0 (Nat.zero_le _) ?_
      · obtain ⟨L0, P0, rfl, rfl, hP, hD, hS, hl, hI_35⟩ := hI
        refine lv_iload hx hb dX3_layGrown_35 (lv_at hl 4 rfl) ?_
        refine lv_iload_n hx hb dX3_layGrown_37 rfl (lv_at hl 2 rfl) ?_
        refine zc_ge (tgt := 60) hx hb (by omega) (by omega) dX3_layGrown_38 (by decide) (fun c_38 => ?_) (fun c_38 => ?_)
        · obtain rfl : n = k := by omega
          refine lv_iload_n hx hb dX3_layGrown_60 rfl (lv_at hl 3 rfl) ?_
          exact W.iret (v := zif (gok B n) (nI (grl B n).length) (-1000003)) hx hb hr (fun t ht hW => ⟨⟨zif (gok B n) (nI (grl B n).length) (-1000003), (fi, va_up (va_up cn 9 (nF L0)) 10 (nF P0), xl), rfl, ⟨rfl, L0, P0, rfl, hI_35⟩, by rw [ht]; exact hP, hD⟩, hS.F ht⟩) hS.2.2 dX3_layGrown_61
        · by_cases hg : gok B k
          · rw [zif_t hg] at hl
            have hg3 := hg k (Nat.le_refl _)
            have hLL := hI_35 hg
            have hAA := lAll_grl hB k
            refine lv_iload_n hx hb dX3_layGrown_41 rfl (lv_at hl 3 rfl) ?_
            refine lv_ldc hx hb hown (hts _ q1424) dX3_layGrown_42 ?_
            refine lv_icmp_eq (tgt := 60) hx hb dX3_layGrown_44 (by decide) (fun c_44 => ?_) (fun c_44 => ?_)
            · exact absurd c_44 (nI_nF (by omega))
            · refine lv_aload_n hx hb dX3_layGrown_47 rfl (lv_at hl 0 rfl) ?_
              refine lv_aload_n hx hb dX3_layGrown_48 rfl (lv_at hl 1 rfl) ?_
              refine lv_iload_n hx hb dX3_layGrown_49 rfl (lv_at hl 3 rfl) ?_
              have hle_50 := hS.1
              refine va_calli (va_runV (As := [.ref (ad 4), .int (nI ((grl B k).length))]) (rest := []) ⟨hx, hb, hml, hown, hts⟩ (m_X3_inflated_4 l g ad fi (va_up (va_up cn 9 (nF L0)) 10 (nF P0)) xl _ B L0 P0 hcr rfl rfl hB (grl B k) hLL hAA hg3) (cwV 2 hts (lw_V q1535 q1537 qs45 q69 q1538) rfl rfl rfl hdV_X3_inflated ⟨Nat.le_of_ble_eq_true rfl, Nat.le_of_ble_eq_true rfl⟩) (zpreV hK hN (va_recv hK hP (ci := 3) (q0 := 0) rfl rfl) ⟨rfl, hP, hD.weaken (fun _ _ _ _ => trivial)⟩) rfl rfl hl.1 rfl (lv_room (Nat.le_of_ble_eq_true rfl)) dX3_layGrown_50 ⟨Nat.le_of_ble_eq_true rfl, Nat.le_of_ble_eq_true rfl⟩) hS (fun q _ h => mA_le hS.1 q h) (mA_le hS.1) (fun r_50 u t H locs ht hvm hw_50 hB hzz hkk hS => ?_)
              obtain ⟨hP, hD⟩ := hB
              rw [ht] at hP
              have hD := hD.weaken (fun _ _ _ h => mA_le hle_50 _ h)
              obtain ⟨rfl, L1, P1, rfl, hL1⟩ := hw_50
              have hP : va_P g.1 zCL (mW g ad fi (va_up (va_up cn 9 (nF L1)) 10 (nF P1)) xl) _ := hP
              have hD : va_D (mA ad s.heap.size) (mW g ad fi (va_up (va_up cn 9 (nF L1)) 10 (nF P1)) xl) := hD
              refine lv_istore_n (lv' := [(3, .int (zif ((gro B (grl B k)).length ≤ 300) (nI (gro B (grl B k)).length) (-1000003))), (0, .ref (ad 0)), (1, .ref (ad 4)), (2, .int (nI n)), (4, .int (nI k))]) hx hb dX3_layGrown_53 rfl hl (by decide) rfl (fun ls hl => ?_)
              refine lv_iinc (v := nI (k + 1)) (lv' := [(4, .int (nI (k + 1))), (3, .int (zif ((gro B (grl B k)).length ≤ 300) (nI (gro B (grl B k)).length) (-1000003))), (0, .ref (ad 0)), (1, .ref (ad 4)), (2, .int (nI n))]) hx hb dX3_layGrown_54 hl (k := 4) rfl (nI_add k 1) (by decide) rfl (fun ls hl => ?_)
              refine lv_goto (tgt := 35) hx hb dX3_layGrown_57 (by decide) ?_
              rw [show zif ((gro B (grl B k)).length ≤ 300) (nI (gro B (grl B k)).length) (-1000003) = zif (gok B (k + 1)) (nI (grl B (k + 1)).length) (-1000003) from zif_c ⟨fun h => gok_s.mpr ⟨hg, h⟩, fun h => (gok_s.mp h).2⟩] at hl
              have hJ : gok B (k + 1) → lHas L1 (grl B (k + 1)) := fun h => hL1 (gok_s.mp h).2
              exact ih_35 (by omega) _ _ _ _ _ ⟨L1, P1, rfl, rfl, hP, hD, hS, lv_sub hl [2, 3, 4, 1, 0] rfl, hJ⟩
          · rw [zif_f hg] at hl
            refine lv_iload_n hx hb dX3_layGrown_41 rfl (lv_at hl 3 rfl) ?_
            refine lv_ldc hx hb hown (hts _ q1424) dX3_layGrown_42 ?_
            refine lv_icmp_eq (tgt := 60) hx hb dX3_layGrown_44 (by decide) (fun c_44 => ?_) (fun c_44 => ?_)
            · refine lv_iload_n hx hb dX3_layGrown_60 rfl (lv_at hl 3 rfl) ?_
              exact W.iret (v := -1000003) hx hb hr (fun t ht hW => ⟨⟨-1000003, (fi, va_up (va_up cn 9 (nF L0)) 10 (nF P0), xl), rfl, ⟨by rw [zif_f (fun z => hg (gok_le z (by omega)))], L0, P0, rfl, fun z => absurd (gok_le z (by omega)) hg⟩, by rw [ht]; exact hP, hD⟩, hS.F ht⟩) hS.2.2 dX3_layGrown_61
            · exact absurd rfl c_44
      · rw [mW_up (cn := va_up cn 9 (nF (va_cpy (fun q => B (4 + q)) L 0 0 (B 3)))) (k := 10) (f := nF P) (hc10)] at hP
        rw [mW_up (cn := va_up cn 9 (nF (va_cpy (fun q => B (4 + q)) L 0 0 (B 3)))) (k := 10) (f := nF P) (hc10)] at hD
        have hP : va_P g.1 zCL (mW g ad fi (va_up (va_up cn 9 (nF (va_cpy (fun q => B (4 + q)) L 0 0 (B 3)))) 10 (nF P)) xl) _ := hP
        have hD : va_D (mA ad s.heap.size) (mW g ad fi (va_up (va_up cn 9 (nF (va_cpy (fun q => B (4 + q)) L 0 0 (B 3)))) 10 (nF P)) xl) := hD
        exact ⟨va_cpy (fun q => B (4 + q)) L 0 0 (B 3), P, rfl, rfl, hP, hD, hS, lv_sub hl [1, 2, 3, 4, 0] rfl, fun _ => lHas_0 (fun k hk => by rw [zcpy_in (by omega) (by omega), Nat.zero_add, Nat.sub_zero])⟩
    · refine lv_aload_n hx hb dX3_layGrown_13 rfl (lv_at hl 0 rfl) ?_
      refine va_get (D := g.1) (ci := 3) (v := .ref (ad 9)) (C := RX3) (T := TX3) (N := 30) hx hb hts in_X3 hown hK hP 0 rfl rfl 9 (by decide) (hts _ q1306) (fun _ h9 => h9) rfl dX3_layGrown_14 ?_
      refine lv_iload hx hb dX3_layGrown_17 (lv_at hl 4 rfl) ?_
      refine lv_aload_n hx hb dX3_layGrown_19 rfl (lv_at hl 1 rfl) ?_
      refine lv_iconst (v := nI 4) hx hb dX3_layGrown_20 (by decide) ?_
      refine lv_iload hx hb dX3_layGrown_21 (lv_at hl 4 rfl) ?_
      refine lv_iadd hx hb dX3_layGrown_23 ?_
      refine zti (nI_add 4 k) ?_
      refine zald hx hb hK hP 4 0 rfl rfl (j := 4 + k) (by omega) (by decide) dX3_layGrown_24 ?_
      refine zti (congrFun hcr _) ?_
      refine zti (show (nF B) (4 + k) = nI (B (4 + k)) from rfl) ?_
      refine zast (f := nF (va_cpy (fun q => B (4 + q)) L 0 0 k)) hx hb hK hP hD hS 8 0 rfl rfl (j := k) (by omega) (by decide) dX3_layGrown_25 (fun H locs hP hD hS => ?_)
      rw [nF_up] at hP hD
      have hP : va_P g.1 zCL (mW g ad fi (va_up cn 9 (nF (va_up (va_cpy (fun q => B (4 + q)) L 0 0 k) k (B (4 + k))))) xl) _ := hP
      have hD : va_D (mA ad s.heap.size) (mW g ad fi (va_up cn 9 (nF (va_up (va_cpy (fun q => B (4 + q)) L 0 0 k) k (B (4 + k))))) xl) := hD
      refine lv_iinc (v := nI (k + 1)) (lv' := [(4, .int (nI (k + 1))), (0, .ref (ad 0)), (1, .ref (ad 4)), (2, .int (nI n)), (3, .int (nI (B 3)))]) hx hb dX3_layGrown_26 hl (k := 4) rfl (nI_add k 1) (by decide) rfl (fun ls hl => ?_)
      refine lv_goto (tgt := 7) hx hb dX3_layGrown_29 (by decide) ?_
      rw [show va_up (va_cpy (fun q => B (4 + q)) L 0 0 k) k (B (4 + k)) = va_cpy (fun q => B (4 + q)) L 0 0 (k + 1) by have h9 := zcpy_s (fun q => B (4 + q)) L 0 0 k; simp only [Nat.zero_add] at h9; exact h9] at hP hD
      exact ih_7 (by omega) _ _ _ _ _ ⟨rfl, rfl, hP, hD, hS, lv_sub hl [1, 2, 3, 4, 0] rfl⟩
  · rw [mW_up (cn := cn) (k := 9) (f := nF (va_cpy (fun q => B (4 + q)) L 0 0 0)) (by rw [zcpy_0]; exact hc9)] at hP
    rw [mW_up (cn := cn) (k := 9) (f := nF (va_cpy (fun q => B (4 + q)) L 0 0 0)) (by rw [zcpy_0]; exact hc9)] at hD
    have hP : va_P g.1 zCL (mW g ad fi (va_up cn 9 (nF (va_cpy (fun q => B (4 + q)) L 0 0 0))) xl) _ := hP
    have hD : va_D (mA ad s.heap.size) (mW g ad fi (va_up cn 9 (nF (va_cpy (fun q => B (4 + q)) L 0 0 0))) xl) := hD
    exact ⟨rfl, rfl, hP, hD, hS, lv_sub hl [2, 3, 4, 1, 0] rfl⟩

set_option maxHeartbeats 4000000 in
set_option maxRecDepth 100000 in
theorem m_X3_inflated_6 (l : Launch) (g : zG) (ad : Nat → Nat) (fi : Nat → Int32) (cn : Nat → Nat → Int32) (xl : Nat → Nat → Int64) (sz : Nat) (B L P : Nat → Nat) (hcr : cn 6 = nF B) (hc9 : cn 9 = nF L) (hc10 : cn 10 = nF P) (hB : bOK B) (ll : List Nat) (hL : lHas L ll) (hA : lAll B ll) (h300 : ll.length ≤ 300) : Met l yX3_inflated (ws_ yX3_inflated cX3_inflated 7 (some .int)) ({ frames := 2, cells := 0, slots := 0, locals := 45 }) (zPc g [.ref (ad 0), .ref (ad 6), .int (nI ll.length)] (mH g ad fi cn xl sz)) (va_Qi (fun r9 u => r9 = zif ((gro B ll).length ≤ 300) (nI (gro B ll).length) (-1000003) ∧ ∃ L9 P9, u = (fi, va_up (va_up cn 9 (nF L9)) 10 (nF P9), xl) ∧ ((gro B ll).length ≤ 300 → lHas L9 (gro B ll))) (mB g ad sz) (mA ad sz)) 0 0 (mA ad sz) := by
  refine Met.ofW (cc := cX3_inflated) (maxL := 7) (ret := (some .int)) (by decide) rfl ?_
  intro p e s m args below meth c s₁ B0 hml hv
  obtain ⟨rfl, ⟨hK, hN⟩, hsz, hP, hD⟩ := hv
  have hx := B0.exec
  have hb := B0.bytes
  have hr := B0.returns
  have hts := atoms_spec (ws := ws_ yX3_inflated cX3_inflated 7 (some .int)) B0.pre
  have hts : ∀ w ∈ lw_all, w.before _ s = true := fun w h => hts w (List.mem_cons_of_mem _ h)
  have hown : s.vm.findClass RX3 = some m.cls := findClass_of_methodNamed B0.named
  have hlocks := B0.notSynchronized
  subst hsz
  have hD := mD_self s.heap.size hD
  have hS : va_S (mA ad s.heap.size) s.heap s.heap [] := va_S.rf
  have hl := lv_entry ([.ref (ad 0), .ref (ad 6), .int (nI ll.length)]) (n := 7) (Nat.le_of_ble_eq_true rfl)
  rw [lg_entry_eq]
  generalize (lg_sl ([.ref (ad 0), .ref (ad 6), .int (nI ll.length)]) ++ List.replicate (7 - (lg_sl ([.ref (ad 0), .ref (ad 6), .int (nI ll.length)])).length) Slot.unset).toArray = ls at hl ⊢
  have hl : lv_has ls 7 [(0, .ref (ad 0)), (1, .ref (ad 6)), (2, .int (nI ll.length))] := hl
  have h0 : B 0 ≤ 4 := hB.n4
  have h3 : B 3 ≤ 8 := hB.r8
  refine lv_iconst (v := nI 0) hx hb dX3_inflated_0 (by decide) ?_
  refine lv_istore_n (lv' := [(3, .int (nI 0)), (0, .ref (ad 0)), (1, .ref (ad 6)), (2, .int (nI ll.length))]) hx hb dX3_inflated_1 rfl hl (by decide) rfl (fun ls hl => ?_)
  refine lv_iconst (v := nI 0) hx hb dX3_inflated_2 (by decide) ?_
  refine lv_istore (lv' := [(4, .int (nI 0)), (3, .int (nI 0)), (0, .ref (ad 0)), (1, .ref (ad 6)), (2, .int (nI ll.length))]) hx hb dX3_inflated_3 hl (by decide) rfl (fun ls hl => ?_)
  refine zloop (head := 5) (nL := 7) (ll.length) (fun k => [(0, .ref (ad 0)), (1, .ref (ad 6)), (2, .int (nI ll.length)), (3, .int (nI (zsum (fun q => bil B (L q)) k))), (4, .int (nI k))]) (fun k hv_k ih_5 ls hl => ?_) 0 (Nat.zero_le _) (lv_sub hl [2, 3, 4, 1, 0] rfl)
  have hz := hL.sle hB hA hv_k
  refine lv_iload hx hb dX3_inflated_5 (lv_at hl 4 rfl) ?_
  refine lv_iload_n hx hb dX3_inflated_7 rfl (lv_at hl 2 rfl) ?_
  refine zc_ge (tgt := 31) hx hb (by omega) (by omega) dX3_inflated_8 (by decide) (fun c_8 => ?_) (fun c_8 => ?_)
  · obtain rfl : ll.length = k := by omega
    rw [hL.len (B := B)] at hl hz
    refine lv_iload_n hx hb dX3_inflated_31 rfl (lv_at hl 3 rfl) ?_
    refine lv_sipush (v := nI 300) hx hb dX3_inflated_32 (by decide) ?_
    refine zc_le (tgt := 41) hx hb (by omega) (by omega) dX3_inflated_35 (by decide) (fun c_35 => ?_) (fun c_35 => ?_)
    · refine lv_iconst (v := nI 0) hx hb dX3_inflated_41 (by decide) ?_
      refine lv_istore (lv' := [(4, .int (nI 0)), (0, .ref (ad 0)), (1, .ref (ad 6)), (2, .int (nI ll.length)), (3, .int (nI ((gro B ll).length)))]) hx hb dX3_inflated_42 hl (by decide) rfl (fun ls hl => ?_)
      refine lv_iconst (v := nI 0) hx hb dX3_inflated_44 (by decide) ?_
      refine lv_istore (lv' := [(5, .int (nI 0)), (4, .int (nI 0)), (0, .ref (ad 0)), (1, .ref (ad 6)), (2, .int (nI ll.length)), (3, .int (nI ((gro B ll).length)))]) hx hb dX3_inflated_45 hl (by decide) rfl (fun ls hl => ?_)
      refine zloopW (head := 47) (ll.length) (fun k H locs cells slots ls => cells = 0 ∧ slots = 0 ∧ va_P g.1 zCL (mW g ad fi (va_up cn 10 (nF (va_cpy (fun j => (gro B ll).getD j 0) P 0 0 (zsum (fun q => bil B (L q)) k)))) xl) H ∧ va_D (mA ad s.heap.size) (mW g ad fi (va_up cn 10 (nF (va_cpy (fun j => (gro B ll).getD j 0) P 0 0 (zsum (fun q => bil B (L q)) k)))) xl) ∧ va_S (mA ad s.heap.size) s.heap H locs ∧ lv_has ls 7 [(0, .ref (ad 0)), (1, .ref (ad 6)), (2, .int (nI ll.length)), (3, .int (nI ((gro B ll).length))), (4, .int (nI (zsum (fun q => bil B (L q)) k))), (5, .int (nI k))]) (fun k hv_k ih_47 H locs cells slots ls hI => ?_) 0 (Nat.zero_le _) ?_
      · obtain ⟨rfl, rfl, hP, hD, hS, hl⟩ := hI
        refine lv_iload hx hb dX3_inflated_47 (lv_at hl 5 rfl) ?_
        refine lv_iload_n hx hb dX3_inflated_49 rfl (lv_at hl 2 rfl) ?_
        refine zc_ge (tgt := 107) hx hb (by omega) (by omega) dX3_inflated_50 (by decide) (fun c_50 => ?_) (fun c_50 => ?_)
        · obtain rfl : ll.length = k := by omega
          rw [hL.len (B := B)] at hl hP hD
          have hP : va_P g.1 zCL (mW g ad fi (va_up cn 10 (nF (va_cpy (fun j => (gro B ll).getD j 0) P 0 0 ((gro B ll).length)))) xl) _ := hP
          have hD : va_D (mA ad s.heap.size) (mW g ad fi (va_up cn 10 (nF (va_cpy (fun j => (gro B ll).getD j 0) P 0 0 ((gro B ll).length)))) xl) := hD
          refine lv_iconst (v := nI 0) hx hb dX3_inflated_107 (by decide) ?_
          refine lv_istore (lv' := [(5, .int (nI 0)), (0, .ref (ad 0)), (1, .ref (ad 6)), (2, .int (nI ll.length)), (3, .int (nI ((gro B ll).length))), (4, .int (nI ((gro B ll).length)))]) hx hb dX3_inflated_108 hl (by decide) rfl (fun ls hl => ?_)
          refine zloopW (head := 110) ((gro B ll).length) (fun k H locs cells slots ls => cells = 0 ∧ slots = 0 ∧ va_P g.1 zCL (mW g ad fi (va_up (va_up cn 9 (nF (va_cpy (va_cpy (fun j => (gro B ll).getD j 0) P 0 0 (gro B ll).length) L 0 0 k))) 10 (nF (va_cpy (fun j => (gro B ll).getD j 0) P 0 0 ((gro B ll).length)))) xl) H ∧ va_D (mA ad s.heap.size) (mW g ad fi (va_up (va_up cn 9 (nF (va_cpy (va_cpy (fun j => (gro B ll).getD j 0) P 0 0 (gro B ll).length) L 0 0 k))) 10 (nF (va_cpy (fun j => (gro B ll).getD j 0) P 0 0 ((gro B ll).length)))) xl) ∧ va_S (mA ad s.heap.size) s.heap H locs ∧ lv_has ls 7 [(0, .ref (ad 0)), (1, .ref (ad 6)), (2, .int (nI ll.length)), (3, .int (nI ((gro B ll).length))), (5, .int (nI k))]) (fun k hv_k ih_110 H locs cells slots ls hI => ?_) 0 (Nat.zero_le _) ?_
          · obtain ⟨rfl, rfl, hP, hD, hS, hl⟩ := hI
            refine lv_iload hx hb dX3_inflated_110 (lv_at hl 4 rfl) ?_
            refine lv_iload_n hx hb dX3_inflated_112 rfl (lv_at hl 3 rfl) ?_
            refine zc_ge (tgt := 136) hx hb (by omega) (by omega) dX3_inflated_113 (by decide) (fun c_113 => ?_) (fun c_113 => ?_)
            · obtain rfl : (gro B ll).length = k := by omega
              refine lv_iload_n hx hb dX3_inflated_136 rfl (lv_at hl 3 rfl) ?_
              exact W.iret (v := nI ((gro B ll).length)) hx hb hr (fun t ht hW => ⟨⟨nI ((gro B ll).length), (fi, va_up (va_up cn 9 (nF (va_cpy (va_cpy (fun j => (gro B ll).getD j 0) P 0 0 (gro B ll).length) L 0 0 ((gro B ll).length)))) 10 (nF (va_cpy (fun j => (gro B ll).getD j 0) P 0 0 ((gro B ll).length))), xl), rfl, ⟨by rw [zif_t c_35], _, _, rfl, fun _ k hk => zcpy2 hk⟩, by rw [ht]; exact hP, hD⟩, hS.F ht⟩) hS.2.2 dX3_inflated_137
            · refine lv_aload_n hx hb dX3_inflated_116 rfl (lv_at hl 0 rfl) ?_
              refine va_get (D := g.1) (ci := 3) (v := .ref (ad 9)) (C := RX3) (T := TX3) (N := 30) hx hb hts in_X3 hown hK hP 0 rfl rfl 9 (by decide) (hts _ q1306) (fun _ h9 => h9) rfl dX3_inflated_117 ?_
              refine lv_iload hx hb dX3_inflated_120 (lv_at hl 4 rfl) ?_
              refine lv_aload_n hx hb dX3_inflated_122 rfl (lv_at hl 0 rfl) ?_
              refine va_get (D := g.1) (ci := 3) (v := .ref (ad 10)) (C := RX3) (T := TX3) (N := 30) hx hb hts in_X3 hown hK hP 0 rfl rfl 10 (by decide) (hts _ q1307) (fun _ h9 => h9) rfl dX3_inflated_123 ?_
              refine lv_iload hx hb dX3_inflated_126 (lv_at hl 4 rfl) ?_
              refine zald hx hb hK hP 9 0 rfl rfl (j := k) (by omega) (by decide) dX3_inflated_128 ?_
              refine zti (show (nF (va_cpy (fun j => (gro B ll).getD j 0) P 0 0 ((gro B ll).length))) k = nI ((va_cpy (fun j => (gro B ll).getD j 0) P 0 0 ((gro B ll).length)) k) from rfl) ?_
              refine zast (f := nF (va_cpy (va_cpy (fun j => (gro B ll).getD j 0) P 0 0 (gro B ll).length) L 0 0 k)) hx hb hK hP hD hS 8 0 rfl rfl (j := k) (by omega) (by decide) dX3_inflated_129 (fun H locs hP hD hS => ?_)
              rw [nF_up] at hP hD
              have hP : va_P g.1 zCL (mW g ad fi (va_up (va_up cn 9 (nF (va_up (va_cpy (va_cpy (fun j => (gro B ll).getD j 0) P 0 0 (gro B ll).length) L 0 0 k) k ((va_cpy (fun j => (gro B ll).getD j 0) P 0 0 ((gro B ll).length)) k)))) 10 (nF (va_cpy (fun j => (gro B ll).getD j 0) P 0 0 ((gro B ll).length)))) xl) _ := hP
              have hD : va_D (mA ad s.heap.size) (mW g ad fi (va_up (va_up cn 9 (nF (va_up (va_cpy (va_cpy (fun j => (gro B ll).getD j 0) P 0 0 (gro B ll).length) L 0 0 k) k ((va_cpy (fun j => (gro B ll).getD j 0) P 0 0 ((gro B ll).length)) k)))) 10 (nF (va_cpy (fun j => (gro B ll).getD j 0) P 0 0 ((gro B ll).length)))) xl) := hD
              refine lv_iinc (v := nI (k + 1)) (lv' := [(5, .int (nI (k + 1))), (0, .ref (ad 0)), (1, .ref (ad 6)), (2, .int (nI ll.length)), (3, .int (nI ((gro B ll).length)))]) hx hb dX3_inflated_130 hl (k := 4) rfl (nI_add k 1) (by decide) rfl (fun ls hl => ?_)
              refine lv_goto (tgt := 110) hx hb dX3_inflated_133 (by decide) ?_
              rw [show va_up (va_cpy (va_cpy (fun j => (gro B ll).getD j 0) P 0 0 (gro B ll).length) L 0 0 k) k (va_cpy (fun j => (gro B ll).getD j 0) P 0 0 (gro B ll).length k) = va_cpy (va_cpy (fun j => (gro B ll).getD j 0) P 0 0 (gro B ll).length) L 0 0 (k + 1) by have h9 := zcpy_s (va_cpy (fun j => (gro B ll).getD j 0) P 0 0 (gro B ll).length) L 0 0 k; rw [Nat.zero_add] at h9; exact h9] at hP hD
              exact ih_110 (by omega) _ _ _ _ _ ⟨rfl, rfl, hP, hD, hS, lv_sub hl [1, 2, 3, 4, 0] rfl⟩
          · rw [mW_up (cn := va_up cn 10 (nF (va_cpy (fun j => (gro B ll).getD j 0) P 0 0 ((gro B ll).length)))) (k := 9) (f := nF (va_cpy (va_cpy (fun j => (gro B ll).getD j 0) P 0 0 (gro B ll).length) L 0 0 0)) (by rw [zcpy_0]; exact hc9)] at hP
            rw [mW_up (cn := va_up cn 10 (nF (va_cpy (fun j => (gro B ll).getD j 0) P 0 0 ((gro B ll).length)))) (k := 9) (f := nF (va_cpy (va_cpy (fun j => (gro B ll).getD j 0) P 0 0 (gro B ll).length) L 0 0 0)) (by rw [zcpy_0]; exact hc9)] at hD
            have hP : va_P g.1 zCL (mW g ad fi (va_up (va_up cn 9 (nF (va_cpy (va_cpy (fun j => (gro B ll).getD j 0) P 0 0 (gro B ll).length) L 0 0 0))) 10 (nF (va_cpy (fun j => (gro B ll).getD j 0) P 0 0 ((gro B ll).length)))) xl) _ := hP
            have hD : va_D (mA ad s.heap.size) (mW g ad fi (va_up (va_up cn 9 (nF (va_cpy (va_cpy (fun j => (gro B ll).getD j 0) P 0 0 (gro B ll).length) L 0 0 0))) 10 (nF (va_cpy (fun j => (gro B ll).getD j 0) P 0 0 ((gro B ll).length)))) xl) := hD
            exact ⟨rfl, rfl, hP, hD, hS, lv_sub hl [1, 2, 3, 4, 0] rfl⟩
        · have hLk := hL.lt hA (show k < ll.length by omega)
          have hLkk := (hB.kd hLk).2
          have hLw := (hB.wl hLk).2
          have hLl := (hB.il hLk).2
          have hzl := zsum_lt (fun q => bil B (L q)) (show k < ll.length by omega)
          rw [hL.len (B := B)] at hzl
          refine lv_iconst (v := nI 0) hx hb dX3_inflated_53 (by decide) ?_
          refine lv_istore (lv' := [(6, .int (nI 0)), (0, .ref (ad 0)), (1, .ref (ad 6)), (2, .int (nI ll.length)), (3, .int (nI ((gro B ll).length))), (4, .int (nI (zsum (fun q => bil B (L q)) k))), (5, .int (nI k))]) hx hb dX3_inflated_54 hl (by decide) rfl (fun ls hl => ?_)
          refine zloopW (head := 56) (bil B (L k)) (fun i H locs cells slots ls => cells = 0 ∧ slots = 0 ∧ va_P g.1 zCL (mW g ad fi (va_up cn 10 (nF (va_cpy (fun j => (gro B ll).getD j 0) P 0 0 (zsum (fun q => bil B (L q)) k + i)))) xl) H ∧ va_D (mA ad s.heap.size) (mW g ad fi (va_up cn 10 (nF (va_cpy (fun j => (gro B ll).getD j 0) P 0 0 (zsum (fun q => bil B (L q)) k + i)))) xl) ∧ va_S (mA ad s.heap.size) s.heap H locs ∧ lv_has ls 7 [(0, .ref (ad 0)), (1, .ref (ad 6)), (2, .int (nI ll.length)), (3, .int (nI ((gro B ll).length))), (4, .int (nI (zsum (fun q => bil B (L q)) k + i))), (5, .int (nI k)), (6, .int (nI i))]) (fun i hv_i ih_56 H locs cells slots ls hI => ?_) 0 (Nat.zero_le _) ?_
          · obtain ⟨rfl, rfl, hP, hD, hS, hl⟩ := hI
            refine lv_iload hx hb dX3_inflated_56 (lv_at hl 6 rfl) ?_
            refine lv_aload_n hx hb dX3_inflated_58 rfl (lv_at hl 1 rfl) ?_
            refine lv_aload_n hx hb dX3_inflated_59 rfl (lv_at hl 0 rfl) ?_
            refine va_get (D := g.1) (ci := 3) (v := .ref (ad 9)) (C := RX3) (T := TX3) (N := 30) hx hb hts in_X3 hown hK hP 0 rfl rfl 9 (by decide) (hts _ q1306) (fun _ h9 => h9) rfl dX3_inflated_60 ?_
            refine lv_iload hx hb dX3_inflated_63 (lv_at hl 5 rfl) ?_
            refine zald hx hb hK hP 8 0 rfl rfl (j := k) (by omega) (by decide) dX3_inflated_65 ?_
            refine zti (congrFun hc9 _) ?_
            refine zti (show (nF L) k = nI (L k) from rfl) ?_
            have hQ_66 : va_P g.1 zCL [(ad 6, .inl (g.2 0, 44, .inl (cn 6)))] _ := hP.sub [6] rfl
            rw [show _ = _ from hcr] at hQ_66
            refine vp_callSi (W.runS (As := [.ref (ad 6), .int (nI (L k))]) (rest := [.int (nI i)]) ⟨hx, hb, hml, hown, hts⟩ (m_X3_imageSize l g (ad 6) B (L k) (by omega) (by first | assumption | omega | exact (hB.kd (by omega)).2)) (va_cwS 2 hts (lw_S q1539 q1540 q69 q1541) rfl rfl rfl hdS_X3_imageSize ⟨Nat.le_of_ble_eq_true rfl, Nat.le_of_ble_eq_true rfl⟩) (zpreS hK hN hQ_66) rfl rfl hl.1 rfl (lv_room (Nat.le_of_ble_eq_true rfl)) dX3_inflated_66 ⟨Nat.le_of_ble_eq_true rfl, Nat.le_of_ble_eq_true rfl⟩) (fun r_66 hr_66 => ?_)
            subst hr_66
            refine zc_ge (tgt := 101) hx hb (by omega) (by omega) dX3_inflated_69 (by decide) (fun c_69 => ?_) (fun c_69 => ?_)
            · obtain rfl : bil B (L k) = i := by omega
              refine lv_iinc (v := nI (k + 1)) (lv' := [(5, .int (nI (k + 1))), (0, .ref (ad 0)), (1, .ref (ad 6)), (2, .int (nI ll.length)), (3, .int (nI ((gro B ll).length))), (4, .int (nI (zsum (fun q => bil B (L q)) k + (bil B (L k))))), (6, .int (nI (bil B (L k))))]) hx hb dX3_inflated_101 hl (k := 5) rfl (nI_add k 1) (by decide) rfl (fun ls hl => ?_)
              refine lv_goto (tgt := 47) hx hb dX3_inflated_104 (by decide) ?_
              exact ih_47 (by omega) _ _ _ _ _ ⟨rfl, rfl, hP, hD, hS, lv_sub hl [1, 2, 3, 4, 5, 0] rfl⟩
            · refine lv_aload_n hx hb dX3_inflated_72 rfl (lv_at hl 0 rfl) ?_
              refine va_get (D := g.1) (ci := 3) (v := .ref (ad 10)) (C := RX3) (T := TX3) (N := 30) hx hb hts in_X3 hown hK hP 0 rfl rfl 10 (by decide) (hts _ q1307) (fun _ h9 => h9) rfl dX3_inflated_73 ?_
              refine lv_iload hx hb dX3_inflated_76 (lv_at hl 4 rfl) ?_
              refine lv_aload_n hx hb dX3_inflated_78 rfl (lv_at hl 1 rfl) ?_
              refine lv_aload_n hx hb dX3_inflated_79 rfl (lv_at hl 0 rfl) ?_
              refine va_get (D := g.1) (ci := 3) (v := .ref (ad 9)) (C := RX3) (T := TX3) (N := 30) hx hb hts in_X3 hown hK hP 0 rfl rfl 9 (by decide) (hts _ q1306) (fun _ h9 => h9) rfl dX3_inflated_80 ?_
              refine lv_iload hx hb dX3_inflated_83 (lv_at hl 5 rfl) ?_
              refine zald hx hb hK hP 8 0 rfl rfl (j := k) (by omega) (by decide) dX3_inflated_85 ?_
              refine zti (congrFun hc9 _) ?_
              refine zti (show (nF L) k = nI (L k) from rfl) ?_
              refine lv_iload hx hb dX3_inflated_86 (lv_at hl 6 rfl) ?_
              have hQ_88 : va_P g.1 zCL [(ad 6, .inl (g.2 0, 44, .inl (cn 6)))] _ := hP.sub [6] rfl
              rw [show _ = _ from hcr] at hQ_88
              refine vp_callSi (W.runS (As := [.ref (ad 6), .int (nI (L k)), .int (nI i)]) (rest := [.int (nI (zsum (fun q => bil B (L q)) k + i)), .ref (ad 10)]) ⟨hx, hb, hml, hown, hts⟩ (m_X3_imageAt l g (ad 6) B (L k) i (by omega) (by first | assumption | omega | exact (hB.kd (by omega)).2) (by first | assumption | omega | exact (hB.wl (by omega)).2) (by first | assumption | omega)) (va_cwS 3 hts (lw_S q1542 q1543 q69 q1544) rfl rfl rfl hdS_X3_imageAt ⟨Nat.le_of_ble_eq_true rfl, Nat.le_of_ble_eq_true rfl⟩) (zpreS hK hN hQ_88) rfl rfl hl.1 rfl (lv_room (Nat.le_of_ble_eq_true rfl)) dX3_inflated_88 ⟨Nat.le_of_ble_eq_true rfl, Nat.le_of_ble_eq_true rfl⟩) (fun r_88 hr_88 => ?_)
              subst hr_88
              refine zast (f := nF (va_cpy (fun j => (gro B ll).getD j 0) P 0 0 (zsum (fun q => bil B (L q)) k + i))) hx hb hK hP hD hS 9 0 rfl rfl (j := zsum (fun q => bil B (L q)) k + i) (by omega) (by decide) dX3_inflated_91 (fun H locs hP hD hS => ?_)
              rw [nF_up] at hP hD
              have hP : va_P g.1 zCL (mW g ad fi (va_up cn 10 (nF (va_up (va_cpy (fun j => (gro B ll).getD j 0) P 0 0 (zsum (fun q => bil B (L q)) k + i)) (zsum (fun q => bil B (L q)) k + i) (bia B (L k) i)))) xl) _ := hP
              have hD : va_D (mA ad s.heap.size) (mW g ad fi (va_up cn 10 (nF (va_up (va_cpy (fun j => (gro B ll).getD j 0) P 0 0 (zsum (fun q => bil B (L q)) k + i)) (zsum (fun q => bil B (L q)) k + i) (bia B (L k) i)))) xl) := hD
              refine lv_iinc (v := nI (zsum (fun q => bil B (L q)) k + i + 1)) (lv' := [(4, .int (nI (zsum (fun q => bil B (L q)) k + i + 1))), (0, .ref (ad 0)), (1, .ref (ad 6)), (2, .int (nI ll.length)), (3, .int (nI ((gro B ll).length))), (5, .int (nI k)), (6, .int (nI i))]) hx hb dX3_inflated_92 hl (k := 4) rfl (nI_add (zsum (fun q => bil B (L q)) k + i) 1) (by decide) rfl (fun ls hl => ?_)
              refine lv_iinc (v := nI (i + 1)) (lv' := [(6, .int (nI (i + 1))), (4, .int (nI (zsum (fun q => bil B (L q)) k + i + 1))), (0, .ref (ad 0)), (1, .ref (ad 6)), (2, .int (nI ll.length)), (3, .int (nI ((gro B ll).length))), (5, .int (nI k))]) hx hb dX3_inflated_95 hl (k := 6) rfl (nI_add i 1) (by decide) rfl (fun ls hl => ?_)
              refine lv_goto (tgt := 56) hx hb dX3_inflated_98 (by decide) ?_
              rw [show va_up (va_cpy (fun j => (gro B ll).getD j 0) P 0 0 (zsum (fun q => bil B (L q)) k + i)) (zsum (fun q => bil B (L q)) k + i) (bia B (L k) i) = va_cpy (fun j => (gro B ll).getD j 0) P 0 0 (zsum (fun q => bil B (L q)) k + (i + 1)) by have h9 := zcpy_s (fun j => (gro B ll).getD j 0) P 0 0 (zsum (fun q => bil B (L q)) k + i); rw [Nat.zero_add] at h9; rw [← hL.at' (show k < ll.length by omega) (show i < bil B (L k) by omega)]; exact h9] at hP hD
              exact ih_56 (by omega) _ _ _ _ _ ⟨rfl, rfl, hP, hD, hS, lv_sub hl [2, 3, 4, 5, 1, 6, 0] rfl⟩
          · exact ⟨rfl, rfl, hP, hD, hS, lv_sub hl [1, 2, 3, 4, 5, 6, 0] rfl⟩
      · rw [mW_up (cn := cn) (k := 10) (f := nF (va_cpy (fun j => (gro B ll).getD j 0) P 0 0 (zsum (fun q => bil B (L q)) 0))) (by rw [show zsum (fun q => bil B (L q)) 0 = 0 from rfl, zcpy_0]; exact hc10)] at hP
        rw [mW_up (cn := cn) (k := 10) (f := nF (va_cpy (fun j => (gro B ll).getD j 0) P 0 0 (zsum (fun q => bil B (L q)) 0))) (by rw [show zsum (fun q => bil B (L q)) 0 = 0 from rfl, zcpy_0]; exact hc10)] at hD
        have hP : va_P g.1 zCL (mW g ad fi (va_up cn 10 (nF (va_cpy (fun j => (gro B ll).getD j 0) P 0 0 (zsum (fun q => bil B (L q)) 0)))) xl) _ := hP
        have hD : va_D (mA ad s.heap.size) (mW g ad fi (va_up cn 10 (nF (va_cpy (fun j => (gro B ll).getD j 0) P 0 0 (zsum (fun q => bil B (L q)) 0)))) xl) := hD
        exact ⟨rfl, rfl, hP, hD, hS, lv_sub hl [2, 3, 4, 5, 1, 0] rfl⟩
    · refine lv_ldc hx hb hown (hts _ q1424) dX3_inflated_38 ?_
      exact W.iret (v := -1000003) hx hb hr (fun t ht hW => ⟨⟨-1000003, (fi, cn, xl), rfl, ⟨by rw [zif_f c_35], L, P, Prod.ext rfl (Prod.ext (up2_id hc9 hc10) rfl), fun h => absurd h c_35⟩, by rw [ht]; exact hP, hD⟩, hS.F ht⟩) hS.2.2 dX3_inflated_40
  · have hLk := hL.lt hA (show k < ll.length by omega)
    have hLkk := (hB.kd hLk).2
    have hLw := (hB.wl hLk).2
    have hLl := (hB.il hLk).2
    refine lv_iload_n hx hb dX3_inflated_11 rfl (lv_at hl 3 rfl) ?_
    refine lv_aload_n hx hb dX3_inflated_12 rfl (lv_at hl 1 rfl) ?_
    refine lv_aload_n hx hb dX3_inflated_13 rfl (lv_at hl 0 rfl) ?_
    refine va_get (D := g.1) (ci := 3) (v := .ref (ad 9)) (C := RX3) (T := TX3) (N := 30) hx hb hts in_X3 hown hK hP 0 rfl rfl 9 (by decide) (hts _ q1306) (fun _ h9 => h9) rfl dX3_inflated_14 ?_
    refine lv_iload hx hb dX3_inflated_17 (lv_at hl 4 rfl) ?_
    refine zald hx hb hK hP 8 0 rfl rfl (j := k) (by omega) (by decide) dX3_inflated_19 ?_
    refine zti (congrFun hc9 _) ?_
    refine zti (show (nF L) k = nI (L k) from rfl) ?_
    have hQ_20 : va_P g.1 zCL [(ad 6, .inl (g.2 0, 44, .inl (cn 6)))] _ := hP.sub [6] rfl
    rw [show _ = _ from hcr] at hQ_20
    refine vp_callSi (W.runS (As := [.ref (ad 6), .int (nI (L k))]) (rest := [.int (nI (zsum (fun q => bil B (L q)) k))]) ⟨hx, hb, hml, hown, hts⟩ (m_X3_imageSize l g (ad 6) B (L k) (by omega) (by first | assumption | omega | exact (hB.kd (by omega)).2)) (va_cwS 2 hts (lw_S q1539 q1540 q69 q1541) rfl rfl rfl hdS_X3_imageSize ⟨Nat.le_of_ble_eq_true rfl, Nat.le_of_ble_eq_true rfl⟩) (zpreS hK hN hQ_20) rfl rfl hl.1 rfl (lv_room (Nat.le_of_ble_eq_true rfl)) dX3_inflated_20 ⟨Nat.le_of_ble_eq_true rfl, Nat.le_of_ble_eq_true rfl⟩) (fun r_20 hr_20 => ?_)
    subst hr_20
    refine lv_iadd hx hb dX3_inflated_23 ?_
    refine zti (nI_add (zsum (fun q => bil B (L q)) k) (bil B (L k))) ?_
    refine lv_istore_n (lv' := [(3, .int (nI (zsum (fun q => bil B (L q)) k + bil B (L k)))), (0, .ref (ad 0)), (1, .ref (ad 6)), (2, .int (nI ll.length)), (4, .int (nI k))]) hx hb dX3_inflated_24 rfl hl (by decide) rfl (fun ls hl => ?_)
    refine lv_iinc (v := nI (k + 1)) (lv' := [(4, .int (nI (k + 1))), (3, .int (nI (zsum (fun q => bil B (L q)) k + bil B (L k)))), (0, .ref (ad 0)), (1, .ref (ad 6)), (2, .int (nI ll.length))]) hx hb dX3_inflated_25 hl (k := 4) rfl (nI_add k 1) (by decide) rfl (fun ls hl => ?_)
    refine lv_goto (tgt := 5) hx hb dX3_inflated_28 (by decide) ?_
    exact ih_5 (by omega) _ (lv_sub hl [2, 3, 4, 1, 0] rfl)

set_option maxHeartbeats 4000000 in
set_option maxRecDepth 100000 in
theorem m_X3_layGrown_6 (l : Launch) (g : zG) (ad : Nat → Nat) (fi : Nat → Int32) (cn : Nat → Nat → Int32) (xl : Nat → Nat → Int64) (sz : Nat) (B L P : Nat → Nat) (hcr : cn 6 = nF B) (hc9 : cn 9 = nF L) (hc10 : cn 10 = nF P) (hB : bOK B) (n : Nat) (hn6 : n ≤ 6) : Met l yX3_layGrown (ws_ yX3_layGrown cX3_layGrown 5 (some .int)) ({ frames := 3, cells := 0, slots := 0, locals := 71 }) (zPc g [.ref (ad 0), .ref (ad 6), .int (nI n)] (mH g ad fi cn xl sz)) (va_Qi (fun r9 u => r9 = zif (gok B n) (nI (grl B n).length) (-1000003) ∧ ∃ L9 P9, u = (fi, va_up (va_up cn 9 (nF L9)) 10 (nF P9), xl) ∧ (gok B n → lHas L9 (grl B n))) (mB g ad sz) (mA ad sz)) 0 0 (mA ad sz) := by
  refine Met.ofW (cc := cX3_layGrown) (maxL := 5) (ret := (some .int)) (by decide) rfl ?_
  intro p e s m args below meth c s₁ B0 hml hv
  obtain ⟨rfl, ⟨hK, hN⟩, hsz, hP, hD⟩ := hv
  have hx := B0.exec
  have hb := B0.bytes
  have hr := B0.returns
  have hts := atoms_spec (ws := ws_ yX3_layGrown cX3_layGrown 5 (some .int)) B0.pre
  have hts : ∀ w ∈ lw_all, w.before _ s = true := fun w h => hts w (List.mem_cons_of_mem _ h)
  have hown : s.vm.findClass RX3 = some m.cls := findClass_of_methodNamed B0.named
  have hlocks := B0.notSynchronized
  subst hsz
  have hD := mD_self s.heap.size hD
  have hS : va_S (mA ad s.heap.size) s.heap s.heap [] := va_S.rf
  have hl := lv_entry ([.ref (ad 0), .ref (ad 6), .int (nI n)]) (n := 5) (Nat.le_of_ble_eq_true rfl)
  rw [lg_entry_eq]
  generalize (lg_sl ([.ref (ad 0), .ref (ad 6), .int (nI n)]) ++ List.replicate (5 - (lg_sl ([.ref (ad 0), .ref (ad 6), .int (nI n)])).length) Slot.unset).toArray = ls at hl ⊢
  have hl : lv_has ls 5 [(0, .ref (ad 0)), (1, .ref (ad 6)), (2, .int (nI n))] := hl
  have h0 : B 0 ≤ 4 := hB.n4
  have h3 : B 3 ≤ 8 := hB.r8
  refine lv_aload_n hx hb dX3_layGrown_0 rfl (lv_at hl 1 rfl) ?_
  refine lv_iconst (v := nI 3) hx hb dX3_layGrown_1 (by decide) ?_
  refine zald hx hb hK hP 6 0 rfl rfl (j := 3) (by omega) (by decide) dX3_layGrown_2 ?_
  refine zti (congrFun hcr _) ?_
  refine zti (show (nF B) 3 = nI (B 3) from rfl) ?_
  refine lv_istore_n (lv' := [(3, .int (nI (B 3))), (0, .ref (ad 0)), (1, .ref (ad 6)), (2, .int (nI n))]) hx hb dX3_layGrown_3 rfl hl (by decide) rfl (fun ls hl => ?_)
  refine lv_iconst (v := nI 0) hx hb dX3_layGrown_4 (by decide) ?_
  refine lv_istore (lv' := [(4, .int (nI 0)), (3, .int (nI (B 3))), (0, .ref (ad 0)), (1, .ref (ad 6)), (2, .int (nI n))]) hx hb dX3_layGrown_5 hl (by decide) rfl (fun ls hl => ?_)
  refine zloopW (head := 7) (B 3) (fun k H locs cells slots ls => cells = 0 ∧ slots = 0 ∧ va_P g.1 zCL (mW g ad fi (va_up cn 9 (nF (va_cpy (fun q => B (4 + q)) L 0 0 k))) xl) H ∧ va_D (mA ad s.heap.size) (mW g ad fi (va_up cn 9 (nF (va_cpy (fun q => B (4 + q)) L 0 0 k))) xl) ∧ va_S (mA ad s.heap.size) s.heap H locs ∧ lv_has ls 5 [(0, .ref (ad 0)), (1, .ref (ad 6)), (2, .int (nI n)), (3, .int (nI (B 3))), (4, .int (nI k))]) (fun k hv_k ih_7 H locs cells slots ls hI => ?_) 0 (Nat.zero_le _) ?_
  · obtain ⟨rfl, rfl, hP, hD, hS, hl⟩ := hI
    refine lv_iload hx hb dX3_layGrown_7 (lv_at hl 4 rfl) ?_
    refine lv_iload_n hx hb dX3_layGrown_9 rfl (lv_at hl 3 rfl) ?_
    refine zc_ge (tgt := 32) hx hb (by omega) (by omega) dX3_layGrown_10 (by decide) (fun c_10 => ?_) (fun c_10 => ?_)
    · obtain rfl : B 3 = k := by omega
      refine lv_iconst (v := nI 0) hx hb dX3_layGrown_32 (by decide) ?_
      refine lv_istore (lv' := [(4, .int (nI 0)), (0, .ref (ad 0)), (1, .ref (ad 6)), (2, .int (nI n)), (3, .int (nI (B 3)))]) hx hb dX3_layGrown_33 hl (by decide) rfl (fun ls hl => ?_)
      have hl : lv_has ls 5 [(4, .int (nI 0)), (0, .ref (ad 0)), (1, .ref (ad 6)), (2, .int (nI n)), (3, .int (zif (gok B 0) (nI (grl B 0).length) (-1000003)))] := by rw [zif_t (gok_0 hB), grl_0]; exact hl
      refine zloopW (head := 35) (n) (fun k H locs cells slots ls => ∃ (L0 : Nat → Nat) (P0 : Nat → Nat), cells = 0 ∧ slots = 0 ∧ va_P g.1 zCL (mW g ad fi (va_up (va_up cn 9 (nF L0)) 10 (nF P0)) xl) H ∧ va_D (mA ad s.heap.size) (mW g ad fi (va_up (va_up cn 9 (nF L0)) 10 (nF P0)) xl) ∧ va_S (mA ad s.heap.size) s.heap H locs ∧ lv_has ls 5 [(0, .ref (ad 0)), (1, .ref (ad 6)), (2, .int (nI n)), (3, .int (zif (gok B k) (nI (grl B k).length) (-1000003))), (4, .int (nI k))] ∧ (gok B k → lHas L0 (grl B k))) (fun k hv_k ih_35 H locs cells slots ls hI => ?_) 0 (Nat.zero_le _) ?_
      · obtain ⟨L0, P0, rfl, rfl, hP, hD, hS, hl, hI_35⟩ := hI
        refine lv_iload hx hb dX3_layGrown_35 (lv_at hl 4 rfl) ?_
        refine lv_iload_n hx hb dX3_layGrown_37 rfl (lv_at hl 2 rfl) ?_
        refine zc_ge (tgt := 60) hx hb (by omega) (by omega) dX3_layGrown_38 (by decide) (fun c_38 => ?_) (fun c_38 => ?_)
        · obtain rfl : n = k := by omega
          refine lv_iload_n hx hb dX3_layGrown_60 rfl (lv_at hl 3 rfl) ?_
          exact W.iret (v := zif (gok B n) (nI (grl B n).length) (-1000003)) hx hb hr (fun t ht hW => ⟨⟨zif (gok B n) (nI (grl B n).length) (-1000003), (fi, va_up (va_up cn 9 (nF L0)) 10 (nF P0), xl), rfl, ⟨rfl, L0, P0, rfl, hI_35⟩, by rw [ht]; exact hP, hD⟩, hS.F ht⟩) hS.2.2 dX3_layGrown_61
        · by_cases hg : gok B k
          · rw [zif_t hg] at hl
            have hg3 := hg k (Nat.le_refl _)
            have hLL := hI_35 hg
            have hAA := lAll_grl hB k
            refine lv_iload_n hx hb dX3_layGrown_41 rfl (lv_at hl 3 rfl) ?_
            refine lv_ldc hx hb hown (hts _ q1424) dX3_layGrown_42 ?_
            refine lv_icmp_eq (tgt := 60) hx hb dX3_layGrown_44 (by decide) (fun c_44 => ?_) (fun c_44 => ?_)
            · exact absurd c_44 (nI_nF (by omega))
            · refine lv_aload_n hx hb dX3_layGrown_47 rfl (lv_at hl 0 rfl) ?_
              refine lv_aload_n hx hb dX3_layGrown_48 rfl (lv_at hl 1 rfl) ?_
              refine lv_iload_n hx hb dX3_layGrown_49 rfl (lv_at hl 3 rfl) ?_
              have hle_50 := hS.1
              refine va_calli (va_runV (As := [.ref (ad 6), .int (nI ((grl B k).length))]) (rest := []) ⟨hx, hb, hml, hown, hts⟩ (m_X3_inflated_6 l g ad fi (va_up (va_up cn 9 (nF L0)) 10 (nF P0)) xl _ B L0 P0 hcr rfl rfl hB (grl B k) hLL hAA hg3) (cwV 2 hts (lw_V q1535 q1537 qs45 q69 q1538) rfl rfl rfl hdV_X3_inflated ⟨Nat.le_of_ble_eq_true rfl, Nat.le_of_ble_eq_true rfl⟩) (zpreV hK hN (va_recv hK hP (ci := 3) (q0 := 0) rfl rfl) ⟨rfl, hP, hD.weaken (fun _ _ _ _ => trivial)⟩) rfl rfl hl.1 rfl (lv_room (Nat.le_of_ble_eq_true rfl)) dX3_layGrown_50 ⟨Nat.le_of_ble_eq_true rfl, Nat.le_of_ble_eq_true rfl⟩) hS (fun q _ h => mA_le hS.1 q h) (mA_le hS.1) (fun r_50 u t H locs ht hvm hw_50 hB hzz hkk hS => ?_)
              obtain ⟨hP, hD⟩ := hB
              rw [ht] at hP
              have hD := hD.weaken (fun _ _ _ h => mA_le hle_50 _ h)
              obtain ⟨rfl, L1, P1, rfl, hL1⟩ := hw_50
              have hP : va_P g.1 zCL (mW g ad fi (va_up (va_up cn 9 (nF L1)) 10 (nF P1)) xl) _ := hP
              have hD : va_D (mA ad s.heap.size) (mW g ad fi (va_up (va_up cn 9 (nF L1)) 10 (nF P1)) xl) := hD
              refine lv_istore_n (lv' := [(3, .int (zif ((gro B (grl B k)).length ≤ 300) (nI (gro B (grl B k)).length) (-1000003))), (0, .ref (ad 0)), (1, .ref (ad 6)), (2, .int (nI n)), (4, .int (nI k))]) hx hb dX3_layGrown_53 rfl hl (by decide) rfl (fun ls hl => ?_)
              refine lv_iinc (v := nI (k + 1)) (lv' := [(4, .int (nI (k + 1))), (3, .int (zif ((gro B (grl B k)).length ≤ 300) (nI (gro B (grl B k)).length) (-1000003))), (0, .ref (ad 0)), (1, .ref (ad 6)), (2, .int (nI n))]) hx hb dX3_layGrown_54 hl (k := 4) rfl (nI_add k 1) (by decide) rfl (fun ls hl => ?_)
              refine lv_goto (tgt := 35) hx hb dX3_layGrown_57 (by decide) ?_
              rw [show zif ((gro B (grl B k)).length ≤ 300) (nI (gro B (grl B k)).length) (-1000003) = zif (gok B (k + 1)) (nI (grl B (k + 1)).length) (-1000003) from zif_c ⟨fun h => gok_s.mpr ⟨hg, h⟩, fun h => (gok_s.mp h).2⟩] at hl
              have hJ : gok B (k + 1) → lHas L1 (grl B (k + 1)) := fun h => hL1 (gok_s.mp h).2
              exact ih_35 (by omega) _ _ _ _ _ ⟨L1, P1, rfl, rfl, hP, hD, hS, lv_sub hl [2, 3, 4, 1, 0] rfl, hJ⟩
          · rw [zif_f hg] at hl
            refine lv_iload_n hx hb dX3_layGrown_41 rfl (lv_at hl 3 rfl) ?_
            refine lv_ldc hx hb hown (hts _ q1424) dX3_layGrown_42 ?_
            refine lv_icmp_eq (tgt := 60) hx hb dX3_layGrown_44 (by decide) (fun c_44 => ?_) (fun c_44 => ?_)
            · refine lv_iload_n hx hb dX3_layGrown_60 rfl (lv_at hl 3 rfl) ?_
              exact W.iret (v := -1000003) hx hb hr (fun t ht hW => ⟨⟨-1000003, (fi, va_up (va_up cn 9 (nF L0)) 10 (nF P0), xl), rfl, ⟨by rw [zif_f (fun z => hg (gok_le z (by omega)))], L0, P0, rfl, fun z => absurd (gok_le z (by omega)) hg⟩, by rw [ht]; exact hP, hD⟩, hS.F ht⟩) hS.2.2 dX3_layGrown_61
            · exact absurd rfl c_44
      · rw [mW_up (cn := va_up cn 9 (nF (va_cpy (fun q => B (4 + q)) L 0 0 (B 3)))) (k := 10) (f := nF P) (hc10)] at hP
        rw [mW_up (cn := va_up cn 9 (nF (va_cpy (fun q => B (4 + q)) L 0 0 (B 3)))) (k := 10) (f := nF P) (hc10)] at hD
        have hP : va_P g.1 zCL (mW g ad fi (va_up (va_up cn 9 (nF (va_cpy (fun q => B (4 + q)) L 0 0 (B 3)))) 10 (nF P)) xl) _ := hP
        have hD : va_D (mA ad s.heap.size) (mW g ad fi (va_up (va_up cn 9 (nF (va_cpy (fun q => B (4 + q)) L 0 0 (B 3)))) 10 (nF P)) xl) := hD
        exact ⟨va_cpy (fun q => B (4 + q)) L 0 0 (B 3), P, rfl, rfl, hP, hD, hS, lv_sub hl [1, 2, 3, 4, 0] rfl, fun _ => lHas_0 (fun k hk => by rw [zcpy_in (by omega) (by omega), Nat.zero_add, Nat.sub_zero])⟩
    · refine lv_aload_n hx hb dX3_layGrown_13 rfl (lv_at hl 0 rfl) ?_
      refine va_get (D := g.1) (ci := 3) (v := .ref (ad 9)) (C := RX3) (T := TX3) (N := 30) hx hb hts in_X3 hown hK hP 0 rfl rfl 9 (by decide) (hts _ q1306) (fun _ h9 => h9) rfl dX3_layGrown_14 ?_
      refine lv_iload hx hb dX3_layGrown_17 (lv_at hl 4 rfl) ?_
      refine lv_aload_n hx hb dX3_layGrown_19 rfl (lv_at hl 1 rfl) ?_
      refine lv_iconst (v := nI 4) hx hb dX3_layGrown_20 (by decide) ?_
      refine lv_iload hx hb dX3_layGrown_21 (lv_at hl 4 rfl) ?_
      refine lv_iadd hx hb dX3_layGrown_23 ?_
      refine zti (nI_add 4 k) ?_
      refine zald hx hb hK hP 6 0 rfl rfl (j := 4 + k) (by omega) (by decide) dX3_layGrown_24 ?_
      refine zti (congrFun hcr _) ?_
      refine zti (show (nF B) (4 + k) = nI (B (4 + k)) from rfl) ?_
      refine zast (f := nF (va_cpy (fun q => B (4 + q)) L 0 0 k)) hx hb hK hP hD hS 8 0 rfl rfl (j := k) (by omega) (by decide) dX3_layGrown_25 (fun H locs hP hD hS => ?_)
      rw [nF_up] at hP hD
      have hP : va_P g.1 zCL (mW g ad fi (va_up cn 9 (nF (va_up (va_cpy (fun q => B (4 + q)) L 0 0 k) k (B (4 + k))))) xl) _ := hP
      have hD : va_D (mA ad s.heap.size) (mW g ad fi (va_up cn 9 (nF (va_up (va_cpy (fun q => B (4 + q)) L 0 0 k) k (B (4 + k))))) xl) := hD
      refine lv_iinc (v := nI (k + 1)) (lv' := [(4, .int (nI (k + 1))), (0, .ref (ad 0)), (1, .ref (ad 6)), (2, .int (nI n)), (3, .int (nI (B 3)))]) hx hb dX3_layGrown_26 hl (k := 4) rfl (nI_add k 1) (by decide) rfl (fun ls hl => ?_)
      refine lv_goto (tgt := 7) hx hb dX3_layGrown_29 (by decide) ?_
      rw [show va_up (va_cpy (fun q => B (4 + q)) L 0 0 k) k (B (4 + k)) = va_cpy (fun q => B (4 + q)) L 0 0 (k + 1) by have h9 := zcpy_s (fun q => B (4 + q)) L 0 0 k; simp only [Nat.zero_add] at h9; exact h9] at hP hD
      exact ih_7 (by omega) _ _ _ _ _ ⟨rfl, rfl, hP, hD, hS, lv_sub hl [1, 2, 3, 4, 0] rfl⟩
  · rw [mW_up (cn := cn) (k := 9) (f := nF (va_cpy (fun q => B (4 + q)) L 0 0 0)) (by rw [zcpy_0]; exact hc9)] at hP
    rw [mW_up (cn := cn) (k := 9) (f := nF (va_cpy (fun q => B (4 + q)) L 0 0 0)) (by rw [zcpy_0]; exact hc9)] at hD
    have hP : va_P g.1 zCL (mW g ad fi (va_up cn 9 (nF (va_cpy (fun q => B (4 + q)) L 0 0 0))) xl) _ := hP
    have hD : va_D (mA ad s.heap.size) (mW g ad fi (va_up cn 9 (nF (va_cpy (fun q => B (4 + q)) L 0 0 0))) xl) := hD
    exact ⟨rfl, rfl, hP, hD, hS, lv_sub hl [2, 3, 4, 1, 0] rfl⟩
