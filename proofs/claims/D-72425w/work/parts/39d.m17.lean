/-! the twin: reading a book -/
set_option maxHeartbeats 4000000 in
set_option maxRecDepth 100000 in
theorem m_X3_sortOf (l : Launch) (g : zG) (v9 : Int32) : Met l yX3_sortOf (ws_ yX3_sortOf cX3_sortOf 1 (some .int)) ({ frames := 0, cells := 0, slots := 0, locals := 0 }) (zPc g [.int v9] (fun H => True)) (vp_Si (fun z : Int32 => z = nI (psrt v9))) 0 0 (fun _ => False) := by
  refine Met.ofW (cc := cX3_sortOf) (maxL := 1) (ret := (some .int)) (by decide) rfl ?_
  intro p e s m args below meth c s₁ B0 hml hv
  obtain ⟨rfl, ⟨hK, hN⟩, hP⟩ := hv
  have hx := B0.exec
  have hb := B0.bytes
  have hr := B0.returns
  have hts := atoms_spec (ws := ws_ yX3_sortOf cX3_sortOf 1 (some .int)) B0.pre
  have hts : ∀ w ∈ lw_all, w.before _ s = true := fun w h => hts w (List.mem_cons_of_mem _ h)
  have hown : s.vm.findClass RX3 = some m.cls := findClass_of_methodNamed B0.named
  have hlocks := B0.notSynchronized
  have hl := lv_entry ([.int v9]) (n := 1) (Nat.le_of_ble_eq_true rfl)
  rw [lg_entry_eq]
  generalize (lg_sl ([.int v9]) ++ List.replicate (1 - (lg_sl ([.int v9])).length) Slot.unset).toArray = ls at hl ⊢
  have hl : lv_has ls 1 [(0, .int v9)] := hl
  refine lv_iload_n hx hb dX3_sortOf_0 rfl (lv_at hl 0 rfl) ?_
  refine lv_bipush (v := nI 112) hx hb dX3_sortOf_1 (by decide) ?_
  refine lv_icmp_ne (tgt := 10) hx hb dX3_sortOf_3 (by decide) (fun c_3 => ?_) (fun c_3 => ?_)
  · refine lv_iload_n hx hb dX3_sortOf_10 rfl (lv_at hl 0 rfl) ?_
    refine lv_bipush (v := nI 109) hx hb dX3_sortOf_11 (by decide) ?_
    refine lv_icmp_ne (tgt := 20) hx hb dX3_sortOf_13 (by decide) (fun c_13 => ?_) (fun c_13 => ?_)
    · refine lv_iload_n hx hb dX3_sortOf_20 rfl (lv_at hl 0 rfl) ?_
      refine lv_bipush (v := nI 108) hx hb dX3_sortOf_21 (by decide) ?_
      refine lv_icmp_ne (tgt := 30) hx hb dX3_sortOf_23 (by decide) (fun c_23 => ?_) (fun c_23 => ?_)
      · refine lv_iload_n hx hb dX3_sortOf_30 rfl (lv_at hl 0 rfl) ?_
        refine lv_bipush (v := nI 102) hx hb dX3_sortOf_31 (by decide) ?_
        refine lv_icmp_ne (tgt := 40) hx hb dX3_sortOf_33 (by decide) (fun c_33 => ?_) (fun c_33 => ?_)
        · refine lv_iload_n hx hb dX3_sortOf_40 rfl (lv_at hl 0 rfl) ?_
          refine lv_bipush (v := nI 115) hx hb dX3_sortOf_41 (by decide) ?_
          refine lv_icmp_ne (tgt := 50) hx hb dX3_sortOf_43 (by decide) (fun c_43 => ?_) (fun c_43 => ?_)
          · refine lv_iconst (v := nI 0) hx hb dX3_sortOf_50 (by decide) ?_
            exact W.iret (v := nI 0) hx hb hr (fun t ht hW => ⟨_, rfl, (by unfold psrt; rw [zif_f c_3, zif_f c_13, zif_f c_23, zif_f c_33, zif_f c_43]), ht⟩) (fun _ h => absurd h List.not_mem_nil) dX3_sortOf_51
          · refine lv_iconst (v := nI 5) hx hb dX3_sortOf_46 (by decide) ?_
            refine lv_goto (tgt := 51) hx hb dX3_sortOf_47 (by decide) ?_
            exact W.iret (v := nI 5) hx hb hr (fun t ht hW => ⟨_, rfl, (by unfold psrt; rw [zif_f c_3, zif_f c_13, zif_f c_23, zif_f c_33, zif_t c_43]), ht⟩) (fun _ h => absurd h List.not_mem_nil) dX3_sortOf_51
        · refine lv_iconst (v := nI 4) hx hb dX3_sortOf_36 (by decide) ?_
          refine lv_goto (tgt := 51) hx hb dX3_sortOf_37 (by decide) ?_
          exact W.iret (v := nI 4) hx hb hr (fun t ht hW => ⟨_, rfl, (by unfold psrt; rw [zif_f c_3, zif_f c_13, zif_f c_23, zif_t c_33]), ht⟩) (fun _ h => absurd h List.not_mem_nil) dX3_sortOf_51
      · refine lv_iconst (v := nI 3) hx hb dX3_sortOf_26 (by decide) ?_
        refine lv_goto (tgt := 51) hx hb dX3_sortOf_27 (by decide) ?_
        exact W.iret (v := nI 3) hx hb hr (fun t ht hW => ⟨_, rfl, (by unfold psrt; rw [zif_f c_3, zif_f c_13, zif_t c_23]), ht⟩) (fun _ h => absurd h List.not_mem_nil) dX3_sortOf_51
    · refine lv_iconst (v := nI 2) hx hb dX3_sortOf_16 (by decide) ?_
      refine lv_goto (tgt := 51) hx hb dX3_sortOf_17 (by decide) ?_
      exact W.iret (v := nI 2) hx hb hr (fun t ht hW => ⟨_, rfl, (by unfold psrt; rw [zif_f c_3, zif_t c_13]), ht⟩) (fun _ h => absurd h List.not_mem_nil) dX3_sortOf_51
  · refine lv_iconst (v := nI 1) hx hb dX3_sortOf_6 (by decide) ?_
    refine lv_goto (tgt := 51) hx hb dX3_sortOf_7 (by decide) ?_
    exact W.iret (v := nI 1) hx hb hr (fun t ht hW => ⟨_, rfl, (by unfold psrt; rw [zif_t c_3]), ht⟩) (fun _ h => absurd h List.not_mem_nil) dX3_sortOf_51

set_option maxHeartbeats 4000000 in
set_option maxRecDepth 100000 in
theorem m_X3_readSort (l : Launch) (g : zG) (ad : Nat → Nat) (fi : Nat → Int32) (cn : Nat → Nat → Int32) (xl : Nat → Nat → Int64) (sz : Nat) (T : Nat → Nat) (n : Nat) (a : pS) (hF : PF T n a fi cn) (hO0 : PO T n a) (hfk0 : a.2.1 = 0) : Met l yX3_readSort (ws_ yX3_readSort cX3_readSort 3 none) ({ frames := 4, cells := 0, slots := 0, locals := 89 }) (zPc g [.ref (ad 0)] (mH g ad fi cn xl sz)) (va_Qv (fun u => True ∧ PQ T n (psrs T n a) fi cn xl u) (mB g ad sz) (mA ad sz)) 0 0 (mA ad sz) := by
  refine Met.ofW (cc := cX3_readSort) (maxL := 3) (ret := none) (by decide) rfl ?_
  intro p e s m args below meth c s₁ B0 hml hv
  obtain ⟨rfl, ⟨hK, hN⟩, hsz, hP, hD⟩ := hv
  have hx := B0.exec
  have hb := B0.bytes
  have hr := B0.returns
  have hts := atoms_spec (ws := ws_ yX3_readSort cX3_readSort 3 none) B0.pre
  have hts : ∀ w ∈ lw_all, w.before _ s = true := fun w h => hts w (List.mem_cons_of_mem _ h)
  have hown : s.vm.findClass RX3 = some m.cls := findClass_of_methodNamed B0.named
  have hlocks := B0.notSynchronized
  subst hsz
  have hD := mD_self s.heap.size hD
  have hS : va_S (mA ad s.heap.size) s.heap s.heap [] := va_S.rf
  have hl := lv_entry ([.ref (ad 0)]) (n := 3) (Nat.le_of_ble_eq_true rfl)
  rw [lg_entry_eq]
  generalize (lg_sl ([.ref (ad 0)]) ++ List.replicate (3 - (lg_sl ([.ref (ad 0)])).length) Slot.unset).toArray = ls at hl ⊢
  have hl : lv_has ls 3 [(0, .ref (ad 0))] := hl
  obtain ⟨hq13, hq14, hq15, hq16, hq17, hq18, hq20, hq5, hq12, hq11⟩ := hF
  have hO := hO0
  obtain ⟨ho1, hn120, hT, ho4, ho16, hoF⟩ := hO0
  have he13 := tkE_le (T := T) ho1
  have hk15 := tkK_le T n a.1
  have hkn := pknd_le T n a.1
  refine zjoin (ls := ls) (α := Int32) (fun v9 => v9 = nI (pknd T n a.1)) (fun v9 => .int v9 :: []) 19 (fun v9 hv => ?_) (fun jn_0 => ?_)
  · subst hv
    refine lv_istore_n (lv' := [(1, .int (nI (pknd T n a.1))), (0, .ref (ad 0))]) hx hb dX3_readSort_19 rfl hl (by decide) rfl (fun ls hl => ?_)
    refine lv_iload_n hx hb dX3_readSort_20 rfl (lv_at hl 0 rfl) ?_
    refine zi_ne (tgt := 32) hx hb (by omega) dX3_readSort_21 (by decide) (fun c_21 => ?_) (fun c_21 => ?_)
    · refine lv_aload_n hx hb dX3_readSort_32 rfl (lv_at hl 1 rfl) ?_
      refine va_get (D := g.1) (ci := 3) (v := .ref (ad 5)) (C := RX3) (T := TX3) (N := 30) hx hb hts in_X3 hown hK hP 0 rfl rfl 5 (by decide) (hts _ q1302) (fun _ h9 => h9) rfl dX3_readSort_33 ?_
      refine lv_iconst (v := nI 0) hx hb dX3_readSort_36 (by decide) ?_
      refine zald hx hb hK hP 5 0 rfl rfl (j := 0) (by omega) (by decide) dX3_readSort_37 ?_
      refine zti (congrFun hq5 _) ?_
      refine zti (show (nF a.2.2.2.2) 0 = nI (a.2.2.2.2 0) from rfl) ?_
      refine lv_iconst (v := nI 4) hx hb dX3_readSort_38 (by decide) ?_
      refine zc_ne (tgt := 47) hx hb (by omega) (by omega) dX3_readSort_39 (by decide) (fun c_39 => ?_) (fun c_39 => ?_)
      · have e0 : psr0 T n a = a := by unfold psr0; rw [zif_f c_21, zif_f c_39]
        refine lv_aload_n hx hb dX3_readSort_47 rfl (lv_at hl 1 rfl) ?_
        refine va_get (D := g.1) (ci := 3) (v := .int (fi 17)) (C := RX3) (T := TX3) (N := 30) hx hb hts in_X3 hown hK hP 0 rfl rfl 17 (by decide) (hts _ q1314) (fun _ h9 => h9) rfl dX3_readSort_48 ?_
        refine zti (hq17) ?_
        refine zi_le (tgt := 55) hx hb (by omega) dX3_readSort_51 (by decide) (fun c_51 => ?_) (fun c_51 => ?_)
        · refine lv_bipush (v := nI 12) hx hb dX3_readSort_55 (by decide) ?_
          refine lv_bipush (v := nI 8) hx hb dX3_readSort_57 (by decide) ?_
          refine lv_aload_n hx hb dX3_readSort_59 rfl (lv_at hl 1 rfl) ?_
          refine va_get (D := g.1) (ci := 3) (v := .ref (ad 5)) (C := RX3) (T := TX3) (N := 30) hx hb hts in_X3 hown hK hP 0 rfl rfl 5 (by decide) (hts _ q1302) (fun _ h9 => h9) rfl dX3_readSort_60 ?_
          refine lv_iconst (v := nI 0) hx hb dX3_readSort_63 (by decide) ?_
          refine zald hx hb hK hP 5 0 rfl rfl (j := 0) (by omega) (by decide) dX3_readSort_64 ?_
          refine zti (congrFun hq5 _) ?_
          refine zti (show (nF a.2.2.2.2) 0 = nI (a.2.2.2.2 0) from rfl) ?_
          refine lv_imul hx hb dX3_readSort_65 ?_
          refine zti (pk_mul 8 (a.2.2.2.2 0)) ?_
          refine lv_iadd hx hb dX3_readSort_66 ?_
          refine zti (nI_add 12 (8 * (a.2.2.2.2 0))) ?_
          refine lv_istore_n (lv' := [(2, .int (nI (12 + (8 * (a.2.2.2.2 0))))), (1, .int (nI (pknd T n a.1))), (0, .ref (ad 0))]) hx hb dX3_readSort_67 rfl hl (by decide) rfl (fun ls hl => ?_)
          refine lv_aload_n hx hb dX3_readSort_68 rfl (lv_at hl 2 rfl) ?_
          have hle_69 := hS.1
          refine va_callv (va_runV (As := []) (rest := []) ⟨hx, hb, hml, hown, hts⟩ (m_X3_nextToken l g ad fi cn xl _ T n (tkE T n a.1) hq11 hq12 hq13 (tkE_le hO.1) hn120 hT) (cwV 0 hts (lw_V q1429 q1431 qs32 q69 q1432) rfl rfl rfl hdV_X3_nextToken ⟨Nat.le_of_ble_eq_true rfl, Nat.le_of_ble_eq_true rfl⟩) (zpreV hK hN (va_recv hK hP (ci := 3) (q0 := 0) rfl rfl) ⟨rfl, hP, hD.weaken (fun _ _ _ _ => trivial)⟩) rfl rfl hl.1 rfl (lv_room (Nat.le_of_ble_eq_true rfl)) dX3_readSort_69 ⟨Nat.le_of_ble_eq_true rfl, Nat.le_of_ble_eq_true rfl⟩) hS (fun q _ h => mA_le hS.1 q h) (mA_le hS.1) (fun u t H locs ht hvm hw_69 hB hzz hkk hS => ?_)
          obtain ⟨hP, hD⟩ := hB
          rw [ht] at hP
          have hD := hD.weaken (fun _ _ _ h => mA_le hle_69 _ h)
          obtain ⟨_, rfl⟩ := hw_69
          have hP : va_P g.1 zCL (mW g ad (va_up (va_up (va_up (va_up fi 13 (nI (tkE T n (tkE T n a.1)))) 14 (nI (tkE T n a.1))) 15 (nI (tkK T n (tkE T n a.1)))) 16 (tkV T n (tkE T n a.1))) cn xl) _ := hP
          have hD : va_D (mA ad s.heap.size) (mW g ad (va_up (va_up (va_up (va_up fi 13 (nI (tkE T n (tkE T n a.1)))) 14 (nI (tkE T n a.1))) 15 (nI (tkK T n (tkE T n a.1)))) 16 (tkV T n (tkE T n a.1))) cn xl) := hD
          refine lv_aload_n hx hb dX3_readSort_72 rfl (lv_at hl 2 rfl) ?_
          refine va_get (D := g.1) (ci := 3) (v := .ref (ad 5)) (C := RX3) (T := TX3) (N := 30) hx hb hts in_X3 hown hK hP 0 rfl rfl 5 (by decide) (hts _ q1302) (fun _ h9 => h9) rfl dX3_readSort_73 ?_
          refine lv_iload_n hx hb dX3_readSort_76 rfl (lv_at hl 0 rfl) ?_
          refine lv_iload_n hx hb dX3_readSort_77 rfl (lv_at hl 1 rfl) ?_
          refine zast (f := cn 5) hx hb hK hP hD hS 5 0 rfl rfl (j := 12 + (8 * (a.2.2.2.2 0))) (by omega) (by decide) dX3_readSort_78 (fun H locs hP hD hS => ?_)
          rw [hq5] at hP hD
          rw [nF_up] at hP hD
          have hP : va_P g.1 zCL (mW g ad (va_up (va_up (va_up (va_up fi 13 (nI (tkE T n (tkE T n a.1)))) 14 (nI (tkE T n a.1))) 15 (nI (tkK T n (tkE T n a.1)))) 16 (tkV T n (tkE T n a.1))) (va_up cn 5 (nF (va_up a.2.2.2.2 (12 + (8 * (a.2.2.2.2 0))) (pknd T n a.1)))) xl) _ := hP
          have hD : va_D (mA ad s.heap.size) (mW g ad (va_up (va_up (va_up (va_up fi 13 (nI (tkE T n (tkE T n a.1)))) 14 (nI (tkE T n a.1))) 15 (nI (tkK T n (tkE T n a.1)))) 16 (tkV T n (tkE T n a.1))) (va_up cn 5 (nF (va_up a.2.2.2.2 (12 + (8 * (a.2.2.2.2 0))) (pknd T n a.1)))) xl) := hD
          have hO_k79 : PO T n (psr1 T n a) := PO.set (hO.nxt) (Or.inl (by omega))
          refine lv_aload_n hx hb dX3_readSort_79 rfl (lv_at hl 2 rfl) ?_
          refine va_get (D := g.1) (ci := 3) (v := .ref (ad 5)) (C := RX3) (T := TX3) (N := 30) hx hb hts in_X3 hown hK hP 0 rfl rfl 5 (by decide) (hts _ q1302) (fun _ h9 => h9) rfl dX3_readSort_80 ?_
          refine lv_iload_n hx hb dX3_readSort_83 rfl (lv_at hl 0 rfl) ?_
          refine lv_iconst (v := nI 1) hx hb dX3_readSort_84 (by decide) ?_
          refine lv_iadd hx hb dX3_readSort_85 ?_
          refine zti (nI_add (12 + (8 * (a.2.2.2.2 0))) 1) ?_
          refine lv_aload_n hx hb dX3_readSort_86 rfl (lv_at hl 2 rfl) ?_
          refine lv_iconst (v := nI 0) hx hb dX3_readSort_87 (by decide) ?_
          refine lv_bipush (v := nI 9) hx hb dX3_readSort_88 (by decide) ?_
          have hle_90 := hS.1
          refine va_calli (va_runV (As := [.int (nI 0), .int (nI 9)]) (rest := [.int (nI (12 + (8 * (a.2.2.2.2 0)) + 1)), .ref (ad 5)]) ⟨hx, hb, hml, hown, hts⟩ (m_X3_figure l g ad (va_up (va_up (va_up (va_up fi 13 (nI (tkE T n (tkE T n a.1)))) 14 (nI (tkE T n a.1))) 15 (nI (tkK T n (tkE T n a.1)))) 16 (tkV T n (tkE T n a.1))) (va_up cn 5 (nF (va_up a.2.2.2.2 (12 + (8 * (a.2.2.2.2 0))) (pknd T n a.1)))) xl _ T n (psr1 T n a) (show PF T n (psr1 T n a) (va_up (va_up (va_up (va_up fi 13 (nI (tkE T n (tkE T n a.1)))) 14 (nI (tkE T n a.1))) 15 (nI (tkK T n (tkE T n a.1)))) 16 (tkV T n (tkE T n a.1))) (va_up cn 5 (nF (va_up a.2.2.2.2 (12 + (8 * (a.2.2.2.2 0))) (pknd T n a.1)))) from ⟨rfl, rfl, rfl, rfl, hq17, hq18, hq20, rfl, hq12, hq11⟩) hO_k79 0 9 (by decide) (by decide)) (cwV 2 hts (lw_V q1446 q1448 qs35 q69 q1449) rfl rfl rfl hdV_X3_figure ⟨Nat.le_of_ble_eq_true rfl, Nat.le_of_ble_eq_true rfl⟩) (zpreV hK hN (va_recv hK hP (ci := 3) (q0 := 0) rfl rfl) ⟨rfl, hP, hD.weaken (fun _ _ _ _ => trivial)⟩) rfl rfl hl.1 rfl (lv_room (Nat.le_of_ble_eq_true rfl)) dX3_readSort_90 ⟨Nat.le_of_ble_eq_true rfl, Nat.le_of_ble_eq_true rfl⟩) hS (fun q _ h => mA_le hS.1 q h) (mA_le hS.1) (fun r_90 u t H locs ht hvm hw_90 hB hzz hkk hS => ?_)
          obtain ⟨hP, hD⟩ := hB
          rw [ht] at hP
          have hD := hD.weaken (fun _ _ _ h => mA_le hle_90 _ h)
          obtain ⟨fi_93, cn_93, xl_93⟩ := u
          obtain ⟨rfl, hPF_93, hO_93, hxl_93, hfr_93, hcr_93⟩ := hw_90
          have hxl_93 : xl = xl_93 := hxl_93.symm
          subst hxl_93
          have hPF_93 : PF T n (pfgs T n 0 9 (psr1 T n a)) fi_93 cn_93 := hPF_93
          have hO_93 : PO T n (pfgs T n 0 9 (psr1 T n a)) := hO_93
          have ho__93 := hO_93
          obtain ⟨ho1_93, _, _, ho4_93, ho16_93, hoF_93⟩ := ho__93
          have he13_93 := tkE_le (T := T) ho1_93
          have hk15_93 := tkK_le T n (pfgs T n 0 9 (psr1 T n a)).1
          obtain ⟨hq13_93, hq14_93, hq15_93, hq16_93, hq17_93, hq18_93, hq20_93, hq5_93, hq12_93, hq11_93⟩ := hPF_93
          have hfr_93 : ∀ k, (k < 13 ∨ 20 < k ∨ k = 19) → fi_93 k = fi k := fun k hk => (hfr_93 k hk).trans ((va_up_ne _ _ (by omega)).trans ((va_up_ne _ _ (by omega)).trans ((va_up_ne _ _ (by omega)).trans ((va_up_ne _ _ (by omega)).trans rfl))))
          have hcr_93 : ∀ k, k ≠ 5 → cn_93 k = cn k := fun k hk => (hcr_93 k hk).trans ((va_up_ne _ _ hk).trans rfl)
          have hP : va_P g.1 zCL (mW g ad fi_93 cn_93 xl) _ := hP
          have hD : va_D (mA ad s.heap.size) (mW g ad fi_93 cn_93 xl) := hD
          refine zast (f := cn_93 5) hx hb hK hP hD hS 5 0 rfl rfl (j := 12 + (8 * (a.2.2.2.2 0)) + 1) (by omega) (by decide) dX3_readSort_93 (fun H locs hP hD hS => ?_)
          rw [hq5_93] at hP hD
          rw [nF_up] at hP hD
          have hP : va_P g.1 zCL (mW g ad fi_93 (va_up cn_93 5 (nF (va_up ((pfgs T n 0 9 (psr1 T n a)).2.2.2.2) (12 + (8 * (a.2.2.2.2 0)) + 1) (pfgv T n 0 9 (psr1 T n a))))) xl) _ := hP
          have hD : va_D (mA ad s.heap.size) (mW g ad fi_93 (va_up cn_93 5 (nF (va_up ((pfgs T n 0 9 (psr1 T n a)).2.2.2.2) (12 + (8 * (a.2.2.2.2 0)) + 1) (pfgv T n 0 9 (psr1 T n a))))) xl) := hD
          have hO_k94 : PO T n (pfgm T n 0 9 (12 + 8 * a.2.2.2.2 0 + 1) (psr1 T n a)) := hO_93.set (Or.inl (by omega))
          refine lv_aload_n hx hb dX3_readSort_94 rfl (lv_at hl 2 rfl) ?_
          refine lv_bipush (v := nI 44) hx hb dX3_readSort_95 (by decide) ?_
          have hle_97 := hS.1
          refine va_callv (va_runV (As := [.int (nI 44)]) (rest := []) ⟨hx, hb, hml, hown, hts⟩ (m_X3_mustSign l g ad fi_93 (va_up cn_93 5 (nF (va_up ((pfgs T n 0 9 (psr1 T n a)).2.2.2.2) (12 + (8 * (a.2.2.2.2 0)) + 1) (pfgv T n 0 9 (psr1 T n a))))) xl _ T n (pfgm T n 0 9 (12 + 8 * a.2.2.2.2 0 + 1) (psr1 T n a)) (show PF T n (pfgm T n 0 9 (12 + 8 * a.2.2.2.2 0 + 1) (psr1 T n a)) fi_93 (va_up cn_93 5 (nF (va_up ((pfgs T n 0 9 (psr1 T n a)).2.2.2.2) (12 + (8 * (a.2.2.2.2 0)) + 1) (pfgv T n 0 9 (psr1 T n a))))) from ⟨hq13_93, hq14_93, hq15_93, hq16_93, hq17_93, hq18_93, hq20_93, rfl, hq12_93, hq11_93⟩) hO_k94 44 (by decide)) (cwV 1 hts (lw_V q1450 q1452 qs36 q69 q1453) rfl rfl rfl hdV_X3_mustSign ⟨Nat.le_of_ble_eq_true rfl, Nat.le_of_ble_eq_true rfl⟩) (zpreV hK hN (va_recv hK hP (ci := 3) (q0 := 0) rfl rfl) ⟨rfl, hP, hD.weaken (fun _ _ _ _ => trivial)⟩) rfl rfl hl.1 rfl (lv_room (Nat.le_of_ble_eq_true rfl)) dX3_readSort_97 ⟨Nat.le_of_ble_eq_true rfl, Nat.le_of_ble_eq_true rfl⟩) hS (fun q _ h => mA_le hS.1 q h) (mA_le hS.1) (fun u t H locs ht hvm hw_97 hB hzz hkk hS => ?_)
          obtain ⟨hP, hD⟩ := hB
          rw [ht] at hP
          have hD := hD.weaken (fun _ _ _ h => mA_le hle_97 _ h)
          obtain ⟨fi_100, cn_100, xl_100⟩ := u
          obtain ⟨_, hPF_100, hO_100, hxl_100, hfr_100, hcr_100⟩ := hw_97
          have hxl_100 : xl = xl_100 := hxl_100.symm
          subst hxl_100
          have hPF_100 : PF T n (psgn T n 44 (pfgm T n 0 9 (12 + 8 * a.2.2.2.2 0 + 1) (psr1 T n a))) fi_100 cn_100 := hPF_100
          have hO_100 : PO T n (psgn T n 44 (pfgm T n 0 9 (12 + 8 * a.2.2.2.2 0 + 1) (psr1 T n a))) := hO_100
          have ho__100 := hO_100
          obtain ⟨ho1_100, _, _, ho4_100, ho16_100, hoF_100⟩ := ho__100
          have he13_100 := tkE_le (T := T) ho1_100
          have hk15_100 := tkK_le T n (psgn T n 44 (pfgm T n 0 9 (12 + 8 * a.2.2.2.2 0 + 1) (psr1 T n a))).1
          obtain ⟨hq13_100, hq14_100, hq15_100, hq16_100, hq17_100, hq18_100, hq20_100, hq5_100, hq12_100, hq11_100⟩ := hPF_100
          have hfr_100 : ∀ k, (k < 13 ∨ 20 < k ∨ k = 19) → fi_100 k = fi k := fun k hk => (hfr_100 k hk).trans (hfr_93 k hk)
          have hcr_100 : ∀ k, k ≠ 5 → cn_100 k = cn k := fun k hk => (hcr_100 k hk).trans ((va_up_ne _ _ hk).trans (hcr_93 k hk))
          have hP : va_P g.1 zCL (mW g ad fi_100 cn_100 xl) _ := hP
          have hD : va_D (mA ad s.heap.size) (mW g ad fi_100 cn_100 xl) := hD
          refine lv_aload_n hx hb dX3_readSort_100 rfl (lv_at hl 2 rfl) ?_
          refine va_get (D := g.1) (ci := 3) (v := .ref (ad 5)) (C := RX3) (T := TX3) (N := 30) hx hb hts in_X3 hown hK hP 0 rfl rfl 5 (by decide) (hts _ q1302) (fun _ h9 => h9) rfl dX3_readSort_101 ?_
          refine lv_iload_n hx hb dX3_readSort_104 rfl (lv_at hl 0 rfl) ?_
          refine lv_iconst (v := nI 2) hx hb dX3_readSort_105 (by decide) ?_
          refine lv_iadd hx hb dX3_readSort_106 ?_
          refine zti (nI_add (12 + (8 * (a.2.2.2.2 0))) 2) ?_
          refine lv_aload_n hx hb dX3_readSort_107 rfl (lv_at hl 2 rfl) ?_
          refine lv_iconst (v := nI 0) hx hb dX3_readSort_108 (by decide) ?_
          refine lv_bipush (v := nI 9) hx hb dX3_readSort_109 (by decide) ?_
          have hle_111 := hS.1
          refine va_calli (va_runV (As := [.int (nI 0), .int (nI 9)]) (rest := [.int (nI (12 + (8 * (a.2.2.2.2 0)) + 2)), .ref (ad 5)]) ⟨hx, hb, hml, hown, hts⟩ (m_X3_figure l g ad fi_100 cn_100 xl _ T n (psgn T n 44 (pfgm T n 0 9 (12 + 8 * a.2.2.2.2 0 + 1) (psr1 T n a))) (show PF T n (psgn T n 44 (pfgm T n 0 9 (12 + 8 * a.2.2.2.2 0 + 1) (psr1 T n a))) fi_100 cn_100 from ⟨hq13_100, hq14_100, hq15_100, hq16_100, hq17_100, hq18_100, hq20_100, hq5_100, hq12_100, hq11_100⟩) hO_100 0 9 (by decide) (by decide)) (cwV 2 hts (lw_V q1446 q1448 qs35 q69 q1449) rfl rfl rfl hdV_X3_figure ⟨Nat.le_of_ble_eq_true rfl, Nat.le_of_ble_eq_true rfl⟩) (zpreV hK hN (va_recv hK hP (ci := 3) (q0 := 0) rfl rfl) ⟨rfl, hP, hD.weaken (fun _ _ _ _ => trivial)⟩) rfl rfl hl.1 rfl (lv_room (Nat.le_of_ble_eq_true rfl)) dX3_readSort_111 ⟨Nat.le_of_ble_eq_true rfl, Nat.le_of_ble_eq_true rfl⟩) hS (fun q _ h => mA_le hS.1 q h) (mA_le hS.1) (fun r_111 u t H locs ht hvm hw_111 hB hzz hkk hS => ?_)
          obtain ⟨hP, hD⟩ := hB
          rw [ht] at hP
          have hD := hD.weaken (fun _ _ _ h => mA_le hle_111 _ h)
          obtain ⟨fi_114, cn_114, xl_114⟩ := u
          obtain ⟨rfl, hPF_114, hO_114, hxl_114, hfr_114, hcr_114⟩ := hw_111
          have hxl_114 : xl = xl_114 := hxl_114.symm
          subst hxl_114
          have hPF_114 : PF T n (pfgs T n 0 9 (psgn T n 44 (pfgm T n 0 9 (12 + 8 * a.2.2.2.2 0 + 1) (psr1 T n a)))) fi_114 cn_114 := hPF_114
          have hO_114 : PO T n (pfgs T n 0 9 (psgn T n 44 (pfgm T n 0 9 (12 + 8 * a.2.2.2.2 0 + 1) (psr1 T n a)))) := hO_114
          have ho__114 := hO_114
          obtain ⟨ho1_114, _, _, ho4_114, ho16_114, hoF_114⟩ := ho__114
          have he13_114 := tkE_le (T := T) ho1_114
          have hk15_114 := tkK_le T n (pfgs T n 0 9 (psgn T n 44 (pfgm T n 0 9 (12 + 8 * a.2.2.2.2 0 + 1) (psr1 T n a)))).1
          obtain ⟨hq13_114, hq14_114, hq15_114, hq16_114, hq17_114, hq18_114, hq20_114, hq5_114, hq12_114, hq11_114⟩ := hPF_114
          have hfr_114 : ∀ k, (k < 13 ∨ 20 < k ∨ k = 19) → fi_114 k = fi k := fun k hk => (hfr_114 k hk).trans (hfr_100 k hk)
          have hcr_114 : ∀ k, k ≠ 5 → cn_114 k = cn k := fun k hk => (hcr_114 k hk).trans (hcr_100 k hk)
          have hP : va_P g.1 zCL (mW g ad fi_114 cn_114 xl) _ := hP
          have hD : va_D (mA ad s.heap.size) (mW g ad fi_114 cn_114 xl) := hD
          refine zast (f := cn_114 5) hx hb hK hP hD hS 5 0 rfl rfl (j := 12 + (8 * (a.2.2.2.2 0)) + 2) (by omega) (by decide) dX3_readSort_114 (fun H locs hP hD hS => ?_)
          rw [hq5_114] at hP hD
          rw [nF_up] at hP hD
          have hP : va_P g.1 zCL (mW g ad fi_114 (va_up cn_114 5 (nF (va_up ((pfgs T n 0 9 (psgn T n 44 (pfgm T n 0 9 (12 + 8 * a.2.2.2.2 0 + 1) (psr1 T n a)))).2.2.2.2) (12 + (8 * (a.2.2.2.2 0)) + 2) (pfgv T n 0 9 (psgn T n 44 (pfgm T n 0 9 (12 + 8 * a.2.2.2.2 0 + 1) (psr1 T n a))))))) xl) _ := hP
          have hD : va_D (mA ad s.heap.size) (mW g ad fi_114 (va_up cn_114 5 (nF (va_up ((pfgs T n 0 9 (psgn T n 44 (pfgm T n 0 9 (12 + 8 * a.2.2.2.2 0 + 1) (psr1 T n a)))).2.2.2.2) (12 + (8 * (a.2.2.2.2 0)) + 2) (pfgv T n 0 9 (psgn T n 44 (pfgm T n 0 9 (12 + 8 * a.2.2.2.2 0 + 1) (psr1 T n a))))))) xl) := hD
          have hO_k115 : PO T n (pfgm T n 0 9 (12 + 8 * a.2.2.2.2 0 + 2) (psgn T n 44 (pfgm T n 0 9 (12 + 8 * a.2.2.2.2 0 + 1) (psr1 T n a)))) := hO_114.set (Or.inl (by omega))
          refine lv_aload_n hx hb dX3_readSort_115 rfl (lv_at hl 2 rfl) ?_
          refine lv_bipush (v := nI 44) hx hb dX3_readSort_116 (by decide) ?_
          have hle_118 := hS.1
          refine va_callv (va_runV (As := [.int (nI 44)]) (rest := []) ⟨hx, hb, hml, hown, hts⟩ (m_X3_mustSign l g ad fi_114 (va_up cn_114 5 (nF (va_up ((pfgs T n 0 9 (psgn T n 44 (pfgm T n 0 9 (12 + 8 * a.2.2.2.2 0 + 1) (psr1 T n a)))).2.2.2.2) (12 + (8 * (a.2.2.2.2 0)) + 2) (pfgv T n 0 9 (psgn T n 44 (pfgm T n 0 9 (12 + 8 * a.2.2.2.2 0 + 1) (psr1 T n a))))))) xl _ T n (pfgm T n 0 9 (12 + 8 * a.2.2.2.2 0 + 2) (psgn T n 44 (pfgm T n 0 9 (12 + 8 * a.2.2.2.2 0 + 1) (psr1 T n a)))) (show PF T n (pfgm T n 0 9 (12 + 8 * a.2.2.2.2 0 + 2) (psgn T n 44 (pfgm T n 0 9 (12 + 8 * a.2.2.2.2 0 + 1) (psr1 T n a)))) fi_114 (va_up cn_114 5 (nF (va_up ((pfgs T n 0 9 (psgn T n 44 (pfgm T n 0 9 (12 + 8 * a.2.2.2.2 0 + 1) (psr1 T n a)))).2.2.2.2) (12 + (8 * (a.2.2.2.2 0)) + 2) (pfgv T n 0 9 (psgn T n 44 (pfgm T n 0 9 (12 + 8 * a.2.2.2.2 0 + 1) (psr1 T n a))))))) from ⟨hq13_114, hq14_114, hq15_114, hq16_114, hq17_114, hq18_114, hq20_114, rfl, hq12_114, hq11_114⟩) hO_k115 44 (by decide)) (cwV 1 hts (lw_V q1450 q1452 qs36 q69 q1453) rfl rfl rfl hdV_X3_mustSign ⟨Nat.le_of_ble_eq_true rfl, Nat.le_of_ble_eq_true rfl⟩) (zpreV hK hN (va_recv hK hP (ci := 3) (q0 := 0) rfl rfl) ⟨rfl, hP, hD.weaken (fun _ _ _ _ => trivial)⟩) rfl rfl hl.1 rfl (lv_room (Nat.le_of_ble_eq_true rfl)) dX3_readSort_118 ⟨Nat.le_of_ble_eq_true rfl, Nat.le_of_ble_eq_true rfl⟩) hS (fun q _ h => mA_le hS.1 q h) (mA_le hS.1) (fun u t H locs ht hvm hw_118 hB hzz hkk hS => ?_)
          obtain ⟨hP, hD⟩ := hB
          rw [ht] at hP
          have hD := hD.weaken (fun _ _ _ h => mA_le hle_118 _ h)
          obtain ⟨fi_121, cn_121, xl_121⟩ := u
          obtain ⟨_, hPF_121, hO_121, hxl_121, hfr_121, hcr_121⟩ := hw_118
          have hxl_121 : xl = xl_121 := hxl_121.symm
          subst hxl_121
          have hPF_121 : PF T n (psgn T n 44 (pfgm T n 0 9 (12 + 8 * a.2.2.2.2 0 + 2) (psgn T n 44 (pfgm T n 0 9 (12 + 8 * a.2.2.2.2 0 + 1) (psr1 T n a))))) fi_121 cn_121 := hPF_121
          have hO_121 : PO T n (psgn T n 44 (pfgm T n 0 9 (12 + 8 * a.2.2.2.2 0 + 2) (psgn T n 44 (pfgm T n 0 9 (12 + 8 * a.2.2.2.2 0 + 1) (psr1 T n a))))) := hO_121
          have ho__121 := hO_121
          obtain ⟨ho1_121, _, _, ho4_121, ho16_121, hoF_121⟩ := ho__121
          have he13_121 := tkE_le (T := T) ho1_121
          have hk15_121 := tkK_le T n (psgn T n 44 (pfgm T n 0 9 (12 + 8 * a.2.2.2.2 0 + 2) (psgn T n 44 (pfgm T n 0 9 (12 + 8 * a.2.2.2.2 0 + 1) (psr1 T n a))))).1
          obtain ⟨hq13_121, hq14_121, hq15_121, hq16_121, hq17_121, hq18_121, hq20_121, hq5_121, hq12_121, hq11_121⟩ := hPF_121
          have hfr_121 : ∀ k, (k < 13 ∨ 20 < k ∨ k = 19) → fi_121 k = fi k := fun k hk => (hfr_121 k hk).trans (hfr_114 k hk)
          have hcr_121 : ∀ k, k ≠ 5 → cn_121 k = cn k := fun k hk => (hcr_121 k hk).trans ((va_up_ne _ _ hk).trans (hcr_114 k hk))
          have hP : va_P g.1 zCL (mW g ad fi_121 cn_121 xl) _ := hP
          have hD : va_D (mA ad s.heap.size) (mW g ad fi_121 cn_121 xl) := hD
          refine lv_aload_n hx hb dX3_readSort_121 rfl (lv_at hl 2 rfl) ?_
          refine va_get (D := g.1) (ci := 3) (v := .ref (ad 5)) (C := RX3) (T := TX3) (N := 30) hx hb hts in_X3 hown hK hP 0 rfl rfl 5 (by decide) (hts _ q1302) (fun _ h9 => h9) rfl dX3_readSort_122 ?_
          refine lv_iload_n hx hb dX3_readSort_125 rfl (lv_at hl 0 rfl) ?_
          refine lv_iconst (v := nI 3) hx hb dX3_readSort_126 (by decide) ?_
          refine lv_iadd hx hb dX3_readSort_127 ?_
          refine zti (nI_add (12 + (8 * (a.2.2.2.2 0))) 3) ?_
          refine lv_aload_n hx hb dX3_readSort_128 rfl (lv_at hl 2 rfl) ?_
          refine lv_iload_n hx hb dX3_readSort_129 rfl (lv_at hl 0 rfl) ?_
          refine lv_iconst (v := nI 4) hx hb dX3_readSort_130 (by decide) ?_
          refine lv_iadd hx hb dX3_readSort_131 ?_
          refine zti (nI_add (12 + (8 * (a.2.2.2.2 0))) 4) ?_
          refine lv_iconst (v := nI 4) hx hb dX3_readSort_132 (by decide) ?_
          have hle_133 := hS.1
          refine va_calli (va_runV (As := [.int (nI (12 + (8 * (a.2.2.2.2 0)) + 4)), .int (nI 4)]) (rest := [.int (nI (12 + (8 * (a.2.2.2.2 0)) + 3)), .ref (ad 5)]) ⟨hx, hb, hml, hown, hts⟩ (m_X3_readWord l g ad fi_121 cn_121 xl _ T n (psgn T n 44 (pfgm T n 0 9 (12 + 8 * a.2.2.2.2 0 + 2) (psgn T n 44 (pfgm T n 0 9 (12 + 8 * a.2.2.2.2 0 + 1) (psr1 T n a))))) (show PF T n (psgn T n 44 (pfgm T n 0 9 (12 + 8 * a.2.2.2.2 0 + 2) (psgn T n 44 (pfgm T n 0 9 (12 + 8 * a.2.2.2.2 0 + 1) (psr1 T n a))))) fi_121 cn_121 from ⟨hq13_121, hq14_121, hq15_121, hq16_121, hq17_121, hq18_121, hq20_121, hq5_121, hq12_121, hq11_121⟩) hO_121 (12 + (8 * (a.2.2.2.2 0)) + 4) 4 (by omega) (by omega)) (cwV 2 hts (lw_V q1461 q1463 qs38 q69 q1464) rfl rfl rfl hdV_X3_readWord ⟨Nat.le_of_ble_eq_true rfl, Nat.le_of_ble_eq_true rfl⟩) (zpreV hK hN (va_recv hK hP (ci := 3) (q0 := 0) rfl rfl) ⟨rfl, hP, hD.weaken (fun _ _ _ _ => trivial)⟩) rfl rfl hl.1 rfl (lv_room (Nat.le_of_ble_eq_true rfl)) dX3_readSort_133 ⟨Nat.le_of_ble_eq_true rfl, Nat.le_of_ble_eq_true rfl⟩) hS (fun q _ h => mA_le hS.1 q h) (mA_le hS.1) (fun r_133 u t H locs ht hvm hw_133 hB hzz hkk hS => ?_)
          obtain ⟨hP, hD⟩ := hB
          rw [ht] at hP
          have hD := hD.weaken (fun _ _ _ h => mA_le hle_133 _ h)
          obtain ⟨fi_136, cn_136, xl_136⟩ := u
          obtain ⟨rfl, hPF_136, hO_136, hxl_136, hfr_136, hcr_136⟩ := hw_133
          have hxl_136 : xl = xl_136 := hxl_136.symm
          subst hxl_136
          have hPF_136 : PF T n (pwds T n (12 + (8 * (a.2.2.2.2 0)) + 4) 4 (psgn T n 44 (pfgm T n 0 9 (12 + 8 * a.2.2.2.2 0 + 2) (psgn T n 44 (pfgm T n 0 9 (12 + 8 * a.2.2.2.2 0 + 1) (psr1 T n a)))))) fi_136 cn_136 := hPF_136
          have hO_136 : PO T n (pwds T n (12 + (8 * (a.2.2.2.2 0)) + 4) 4 (psgn T n 44 (pfgm T n 0 9 (12 + 8 * a.2.2.2.2 0 + 2) (psgn T n 44 (pfgm T n 0 9 (12 + 8 * a.2.2.2.2 0 + 1) (psr1 T n a)))))) := hO_136
          have ho__136 := hO_136
          obtain ⟨ho1_136, _, _, ho4_136, ho16_136, hoF_136⟩ := ho__136
          have he13_136 := tkE_le (T := T) ho1_136
          have hk15_136 := tkK_le T n (pwds T n (12 + (8 * (a.2.2.2.2 0)) + 4) 4 (psgn T n 44 (pfgm T n 0 9 (12 + 8 * a.2.2.2.2 0 + 2) (psgn T n 44 (pfgm T n 0 9 (12 + 8 * a.2.2.2.2 0 + 1) (psr1 T n a)))))).1
          obtain ⟨hq13_136, hq14_136, hq15_136, hq16_136, hq17_136, hq18_136, hq20_136, hq5_136, hq12_136, hq11_136⟩ := hPF_136
          have hfr_136 : ∀ k, (k < 13 ∨ 20 < k ∨ k = 19) → fi_136 k = fi k := fun k hk => (hfr_136 k hk).trans (hfr_121 k hk)
          have hcr_136 : ∀ k, k ≠ 5 → cn_136 k = cn k := fun k hk => (hcr_136 k hk).trans (hcr_121 k hk)
          have hP : va_P g.1 zCL (mW g ad fi_136 cn_136 xl) _ := hP
          have hD : va_D (mA ad s.heap.size) (mW g ad fi_136 cn_136 xl) := hD
          refine zast (f := cn_136 5) hx hb hK hP hD hS 5 0 rfl rfl (j := 12 + (8 * (a.2.2.2.2 0)) + 3) (by omega) (by decide) dX3_readSort_136 (fun H locs hP hD hS => ?_)
          rw [hq5_136] at hP hD
          rw [nF_up] at hP hD
          have hP : va_P g.1 zCL (mW g ad fi_136 (va_up cn_136 5 (nF (va_up ((pwds T n (12 + (8 * (a.2.2.2.2 0)) + 4) 4 (psgn T n 44 (pfgm T n 0 9 (12 + 8 * a.2.2.2.2 0 + 2) (psgn T n 44 (pfgm T n 0 9 (12 + 8 * a.2.2.2.2 0 + 1) (psr1 T n a)))))).2.2.2.2) (12 + (8 * (a.2.2.2.2 0)) + 3) (pwdn T n 4 (psgn T n 44 (pfgm T n 0 9 (12 + 8 * a.2.2.2.2 0 + 2) (psgn T n 44 (pfgm T n 0 9 (12 + 8 * a.2.2.2.2 0 + 1) (psr1 T n a))))))))) xl) _ := hP
          have hD : va_D (mA ad s.heap.size) (mW g ad fi_136 (va_up cn_136 5 (nF (va_up ((pwds T n (12 + (8 * (a.2.2.2.2 0)) + 4) 4 (psgn T n 44 (pfgm T n 0 9 (12 + 8 * a.2.2.2.2 0 + 2) (psgn T n 44 (pfgm T n 0 9 (12 + 8 * a.2.2.2.2 0 + 1) (psr1 T n a)))))).2.2.2.2) (12 + (8 * (a.2.2.2.2 0)) + 3) (pwdn T n 4 (psgn T n 44 (pfgm T n 0 9 (12 + 8 * a.2.2.2.2 0 + 2) (psgn T n 44 (pfgm T n 0 9 (12 + 8 * a.2.2.2.2 0 + 1) (psr1 T n a))))))))) xl) := hD
          have hO_k137 : PO T n (pwdm T n (12 + 8 * a.2.2.2.2 0 + 4) 4 (12 + 8 * a.2.2.2.2 0 + 3) (psgn T n 44 (pfgm T n 0 9 (12 + 8 * a.2.2.2.2 0 + 2) (psgn T n 44 (pfgm T n 0 9 (12 + 8 * a.2.2.2.2 0 + 1) (psr1 T n a)))))) := hO_136.set (Or.inl (by omega))
          refine lv_aload_n hx hb dX3_readSort_137 rfl (lv_at hl 2 rfl) ?_
          refine lv_bipush (v := nI 59) hx hb dX3_readSort_138 (by decide) ?_
          have hle_140 := hS.1
          refine va_callv (va_runV (As := [.int (nI 59)]) (rest := []) ⟨hx, hb, hml, hown, hts⟩ (m_X3_mustSign l g ad fi_136 (va_up cn_136 5 (nF (va_up ((pwds T n (12 + (8 * (a.2.2.2.2 0)) + 4) 4 (psgn T n 44 (pfgm T n 0 9 (12 + 8 * a.2.2.2.2 0 + 2) (psgn T n 44 (pfgm T n 0 9 (12 + 8 * a.2.2.2.2 0 + 1) (psr1 T n a)))))).2.2.2.2) (12 + (8 * (a.2.2.2.2 0)) + 3) (pwdn T n 4 (psgn T n 44 (pfgm T n 0 9 (12 + 8 * a.2.2.2.2 0 + 2) (psgn T n 44 (pfgm T n 0 9 (12 + 8 * a.2.2.2.2 0 + 1) (psr1 T n a))))))))) xl _ T n (pwdm T n (12 + 8 * a.2.2.2.2 0 + 4) 4 (12 + 8 * a.2.2.2.2 0 + 3) (psgn T n 44 (pfgm T n 0 9 (12 + 8 * a.2.2.2.2 0 + 2) (psgn T n 44 (pfgm T n 0 9 (12 + 8 * a.2.2.2.2 0 + 1) (psr1 T n a)))))) (show PF T n (pwdm T n (12 + 8 * a.2.2.2.2 0 + 4) 4 (12 + 8 * a.2.2.2.2 0 + 3) (psgn T n 44 (pfgm T n 0 9 (12 + 8 * a.2.2.2.2 0 + 2) (psgn T n 44 (pfgm T n 0 9 (12 + 8 * a.2.2.2.2 0 + 1) (psr1 T n a)))))) fi_136 (va_up cn_136 5 (nF (va_up ((pwds T n (12 + (8 * (a.2.2.2.2 0)) + 4) 4 (psgn T n 44 (pfgm T n 0 9 (12 + 8 * a.2.2.2.2 0 + 2) (psgn T n 44 (pfgm T n 0 9 (12 + 8 * a.2.2.2.2 0 + 1) (psr1 T n a)))))).2.2.2.2) (12 + (8 * (a.2.2.2.2 0)) + 3) (pwdn T n 4 (psgn T n 44 (pfgm T n 0 9 (12 + 8 * a.2.2.2.2 0 + 2) (psgn T n 44 (pfgm T n 0 9 (12 + 8 * a.2.2.2.2 0 + 1) (psr1 T n a))))))))) from ⟨hq13_136, hq14_136, hq15_136, hq16_136, hq17_136, hq18_136, hq20_136, rfl, hq12_136, hq11_136⟩) hO_k137 59 (by decide)) (cwV 1 hts (lw_V q1450 q1452 qs36 q69 q1453) rfl rfl rfl hdV_X3_mustSign ⟨Nat.le_of_ble_eq_true rfl, Nat.le_of_ble_eq_true rfl⟩) (zpreV hK hN (va_recv hK hP (ci := 3) (q0 := 0) rfl rfl) ⟨rfl, hP, hD.weaken (fun _ _ _ _ => trivial)⟩) rfl rfl hl.1 rfl (lv_room (Nat.le_of_ble_eq_true rfl)) dX3_readSort_140 ⟨Nat.le_of_ble_eq_true rfl, Nat.le_of_ble_eq_true rfl⟩) hS (fun q _ h => mA_le hS.1 q h) (mA_le hS.1) (fun u t H locs ht hvm hw_140 hB hzz hkk hS => ?_)
          obtain ⟨hP, hD⟩ := hB
          rw [ht] at hP
          have hD := hD.weaken (fun _ _ _ h => mA_le hle_140 _ h)
          obtain ⟨fi_143, cn_143, xl_143⟩ := u
          obtain ⟨_, hPF_143, hO_143, hxl_143, hfr_143, hcr_143⟩ := hw_140
          have hxl_143 : xl = xl_143 := hxl_143.symm
          subst hxl_143
          have hPF_143 : PF T n (psgn T n 59 (pwdm T n (12 + 8 * a.2.2.2.2 0 + 4) 4 (12 + 8 * a.2.2.2.2 0 + 3) (psgn T n 44 (pfgm T n 0 9 (12 + 8 * a.2.2.2.2 0 + 2) (psgn T n 44 (pfgm T n 0 9 (12 + 8 * a.2.2.2.2 0 + 1) (psr1 T n a))))))) fi_143 cn_143 := hPF_143
          have hO_143 : PO T n (psgn T n 59 (pwdm T n (12 + 8 * a.2.2.2.2 0 + 4) 4 (12 + 8 * a.2.2.2.2 0 + 3) (psgn T n 44 (pfgm T n 0 9 (12 + 8 * a.2.2.2.2 0 + 2) (psgn T n 44 (pfgm T n 0 9 (12 + 8 * a.2.2.2.2 0 + 1) (psr1 T n a))))))) := hO_143
          have ho__143 := hO_143
          obtain ⟨ho1_143, _, _, ho4_143, ho16_143, hoF_143⟩ := ho__143
          have he13_143 := tkE_le (T := T) ho1_143
          have hk15_143 := tkK_le T n (psgn T n 59 (pwdm T n (12 + 8 * a.2.2.2.2 0 + 4) 4 (12 + 8 * a.2.2.2.2 0 + 3) (psgn T n 44 (pfgm T n 0 9 (12 + 8 * a.2.2.2.2 0 + 2) (psgn T n 44 (pfgm T n 0 9 (12 + 8 * a.2.2.2.2 0 + 1) (psr1 T n a))))))).1
          obtain ⟨hq13_143, hq14_143, hq15_143, hq16_143, hq17_143, hq18_143, hq20_143, hq5_143, hq12_143, hq11_143⟩ := hPF_143
          have hfr_143 : ∀ k, (k < 13 ∨ 20 < k ∨ k = 19) → fi_143 k = fi k := fun k hk => (hfr_143 k hk).trans (hfr_136 k hk)
          have hcr_143 : ∀ k, k ≠ 5 → cn_143 k = cn k := fun k hk => (hcr_143 k hk).trans ((va_up_ne _ _ hk).trans (hcr_136 k hk))
          have hP : va_P g.1 zCL (mW g ad fi_143 cn_143 xl) _ := hP
          have hD : va_D (mA ad s.heap.size) (mW g ad fi_143 cn_143 xl) := hD
          have hF9 := psr2_F0 (T := T) (n := n) (x := 12 + 8 * a.2.2.2.2 0) (a := psr1 T n a)
          refine lv_aload_n hx hb dX3_readSort_143 rfl (lv_at hl 2 rfl) ?_
          refine va_get (D := g.1) (ci := 3) (v := .ref (ad 5)) (C := RX3) (T := TX3) (N := 30) hx hb hts in_X3 hown hK hP 0 rfl rfl 5 (by decide) (hts _ q1302) (fun _ h9 => h9) rfl dX3_readSort_144 ?_
          refine lv_iconst (v := nI 0) hx hb dX3_readSort_147 (by decide) ?_
          refine lv_dup2_11 hx hb dX3_readSort_148 rfl rfl ?_
          refine zald hx hb hK hP 5 0 rfl rfl (j := 0) (by omega) (by decide) dX3_readSort_149 ?_
          refine zti (congrFun hq5_143 _) ?_
          refine zti (show (nF ((psgn T n 59 (pwdm T n (12 + 8 * a.2.2.2.2 0 + 4) 4 (12 + 8 * a.2.2.2.2 0 + 3) (psgn T n 44 (pfgm T n 0 9 (12 + 8 * a.2.2.2.2 0 + 2) (psgn T n 44 (pfgm T n 0 9 (12 + 8 * a.2.2.2.2 0 + 1) (psr1 T n a))))))).2.2.2.2)) 0 = nI (((psgn T n 59 (pwdm T n (12 + 8 * a.2.2.2.2 0 + 4) 4 (12 + 8 * a.2.2.2.2 0 + 3) (psgn T n 44 (pfgm T n 0 9 (12 + 8 * a.2.2.2.2 0 + 2) (psgn T n 44 (pfgm T n 0 9 (12 + 8 * a.2.2.2.2 0 + 1) (psr1 T n a))))))).2.2.2.2) 0) from rfl) ?_
          refine lv_iconst (v := nI 1) hx hb dX3_readSort_150 (by decide) ?_
          refine lv_iadd hx hb dX3_readSort_151 ?_
          refine zti (nI_add (((psgn T n 59 (pwdm T n (12 + 8 * a.2.2.2.2 0 + 4) 4 (12 + 8 * a.2.2.2.2 0 + 3) (psgn T n 44 (pfgm T n 0 9 (12 + 8 * a.2.2.2.2 0 + 2) (psgn T n 44 (pfgm T n 0 9 (12 + 8 * a.2.2.2.2 0 + 1) (psr1 T n a))))))).2.2.2.2) 0) 1) ?_
          refine zast (f := cn_143 5) hx hb hK hP hD hS 5 0 rfl rfl (j := 0) (by omega) (by decide) dX3_readSort_152 (fun H locs hP hD hS => ?_)
          rw [hq5_143] at hP hD
          rw [nF_up] at hP hD
          have hP : va_P g.1 zCL (mW g ad fi_143 (va_up cn_143 5 (nF (va_up ((psgn T n 59 (pwdm T n (12 + 8 * a.2.2.2.2 0 + 4) 4 (12 + 8 * a.2.2.2.2 0 + 3) (psgn T n 44 (pfgm T n 0 9 (12 + 8 * a.2.2.2.2 0 + 2) (psgn T n 44 (pfgm T n 0 9 (12 + 8 * a.2.2.2.2 0 + 1) (psr1 T n a))))))).2.2.2.2) 0 (((psgn T n 59 (pwdm T n (12 + 8 * a.2.2.2.2 0 + 4) 4 (12 + 8 * a.2.2.2.2 0 + 3) (psgn T n 44 (pfgm T n 0 9 (12 + 8 * a.2.2.2.2 0 + 2) (psgn T n 44 (pfgm T n 0 9 (12 + 8 * a.2.2.2.2 0 + 1) (psr1 T n a))))))).2.2.2.2) 0 + 1)))) xl) _ := hP
          have hD : va_D (mA ad s.heap.size) (mW g ad fi_143 (va_up cn_143 5 (nF (va_up ((psgn T n 59 (pwdm T n (12 + 8 * a.2.2.2.2 0 + 4) 4 (12 + 8 * a.2.2.2.2 0 + 3) (psgn T n 44 (pfgm T n 0 9 (12 + 8 * a.2.2.2.2 0 + 2) (psgn T n 44 (pfgm T n 0 9 (12 + 8 * a.2.2.2.2 0 + 1) (psr1 T n a))))))).2.2.2.2) 0 (((psgn T n 59 (pwdm T n (12 + 8 * a.2.2.2.2 0 + 4) 4 (12 + 8 * a.2.2.2.2 0 + 3) (psgn T n 44 (pfgm T n 0 9 (12 + 8 * a.2.2.2.2 0 + 2) (psgn T n 44 (pfgm T n 0 9 (12 + 8 * a.2.2.2.2 0 + 1) (psr1 T n a))))))).2.2.2.2) 0 + 1)))) xl) := hD
          exact W.vret hx hb hr (fun t ht hW => ⟨⟨(fi_143, va_up cn_143 5 (nF (va_up ((psgn T n 59 (pwdm T n (12 + 8 * a.2.2.2.2 0 + 4) 4 (12 + 8 * a.2.2.2.2 0 + 3) (psgn T n 44 (pfgm T n 0 9 (12 + 8 * a.2.2.2.2 0 + 2) (psgn T n 44 (pfgm T n 0 9 (12 + 8 * a.2.2.2.2 0 + 1) (psr1 T n a))))))).2.2.2.2) 0 (((psgn T n 59 (pwdm T n (12 + 8 * a.2.2.2.2 0 + 4) 4 (12 + 8 * a.2.2.2.2 0 + 3) (psgn T n 44 (pfgm T n 0 9 (12 + 8 * a.2.2.2.2 0 + 2) (psgn T n 44 (pfgm T n 0 9 (12 + 8 * a.2.2.2.2 0 + 1) (psr1 T n a))))))).2.2.2.2) 0 + 1))), xl), rfl, ⟨trivial, (show PQ T n (psrs T n a) fi cn xl (fi_143, va_up cn_143 5 (nF (va_up ((psgn T n 59 (pwdm T n (12 + 8 * a.2.2.2.2 0 + 4) 4 (12 + 8 * a.2.2.2.2 0 + 3) (psgn T n 44 (pfgm T n 0 9 (12 + 8 * a.2.2.2.2 0 + 2) (psgn T n 44 (pfgm T n 0 9 (12 + 8 * a.2.2.2.2 0 + 1) (psr1 T n a))))))).2.2.2.2) 0 (((psgn T n 59 (pwdm T n (12 + 8 * a.2.2.2.2 0 + 4) 4 (12 + 8 * a.2.2.2.2 0 + 3) (psgn T n 44 (pfgm T n 0 9 (12 + 8 * a.2.2.2.2 0 + 2) (psgn T n 44 (pfgm T n 0 9 (12 + 8 * a.2.2.2.2 0 + 1) (psr1 T n a))))))).2.2.2.2) 0 + 1))), xl) from by have hO9 := hO.rs; rw [show psrs T n a = _ from zif_f (by rw [e0, hfk0]; exact Nat.lt_irrefl 0)] at hO9 ⊢; exact ⟨⟨hq13_143, hq14_143, hq15_143, hq16_143, hq17_143, hq18_143, hq20_143, rfl, hq12_143, hq11_143⟩, hO9, rfl, (fun k hk => (hfr_143 k hk)), (fun k hk => ((va_up_ne _ _ hk).trans (hcr_143 k hk)))⟩)⟩, by rw [ht]; exact hP, hD⟩, hS.F ht⟩) hS.2.2 dX3_readSort_153
        · omega
      · refine lv_aload_n hx hb dX3_readSort_42 rfl (lv_at hl 1 rfl) ?_
        refine lv_iconst (v := nI 3) hx hb dX3_readSort_43 (by decide) ?_
        have hle_44 := hS.1
        refine va_callv (va_runV (As := [.int (nI 3)]) (rest := []) ⟨hx, hb, hml, hown, hts⟩ (m_X3_bad l g ad fi cn xl _ T n a (show PF T n a fi cn from ⟨hq13, hq14, hq15, hq16, hq17, hq18, hq20, hq5, hq12, hq11⟩) hO 3 (by decide)) (cwV 1 hts (lw_V q1442 q1444 qs34 q69 q1445) rfl rfl rfl hdV_X3_bad ⟨Nat.le_of_ble_eq_true rfl, Nat.le_of_ble_eq_true rfl⟩) (zpreV hK hN (va_recv hK hP (ci := 3) (q0 := 0) rfl rfl) ⟨rfl, hP, hD.weaken (fun _ _ _ _ => trivial)⟩) rfl rfl hl.1 rfl (lv_room (Nat.le_of_ble_eq_true rfl)) dX3_readSort_44 ⟨Nat.le_of_ble_eq_true rfl, Nat.le_of_ble_eq_true rfl⟩) hS (fun q _ h => mA_le hS.1 q h) (mA_le hS.1) (fun u t H locs ht hvm hw_44 hB hzz hkk hS => ?_)
        obtain ⟨hP, hD⟩ := hB
        rw [ht] at hP
        have hD := hD.weaken (fun _ _ _ h => mA_le hle_44 _ h)
        obtain ⟨fi_47, cn_47, xl_47⟩ := u
        obtain ⟨_, hPF_47, hO_47, hxl_47, hfr_47, hcr_47⟩ := hw_44
        have hxl_47 : xl = xl_47 := hxl_47.symm
        subst hxl_47
        have hPF_47 : PF T n (pbad 3 a) fi_47 cn_47 := hPF_47
        have hO_47 : PO T n (pbad 3 a) := hO_47
        have ho__47 := hO_47
        obtain ⟨ho1_47, _, _, ho4_47, ho16_47, hoF_47⟩ := ho__47
        have he13_47 := tkE_le (T := T) ho1_47
        have hk15_47 := tkK_le T n (pbad 3 a).1
        obtain ⟨hq13_47, hq14_47, hq15_47, hq16_47, hq17_47, hq18_47, hq20_47, hq5_47, hq12_47, hq11_47⟩ := hPF_47
        have hfr_47 : ∀ k, (k < 13 ∨ 20 < k ∨ k = 19) → fi_47 k = fi k := fun k hk => (hfr_47 k hk).trans rfl
        have hcr_47 : ∀ k, k ≠ 5 → cn_47 k = cn k := fun k hk => (hcr_47 k hk).trans rfl
        have hP : va_P g.1 zCL (mW g ad fi_47 cn_47 xl) _ := hP
        have hD : va_D (mA ad s.heap.size) (mW g ad fi_47 cn_47 xl) := hD
        have e0 : psr0 T n a = pbad 3 a := by unfold psr0; rw [zif_f c_21, zif_t c_39]
        refine lv_aload_n hx hb dX3_readSort_47 rfl (lv_at hl 1 rfl) ?_
        refine va_get (D := g.1) (ci := 3) (v := .int (fi_47 17)) (C := RX3) (T := TX3) (N := 30) hx hb hts in_X3 hown hK hP 0 rfl rfl 17 (by decide) (hts _ q1314) (fun _ h9 => h9) rfl dX3_readSort_48 ?_
        refine zti (hq17_47) ?_
        refine zi_le (tgt := 55) hx hb (by omega) dX3_readSort_51 (by decide) (fun c_51 => ?_) (fun c_51 => ?_)
        · exact absurd (Nat.pos_of_ne_zero pbad_nz) c_51
        · exact W.vret hx hb hr (fun t ht hW => ⟨⟨(fi_47, cn_47, xl), rfl, ⟨trivial, (show PQ T n (psrs T n a) fi cn xl (fi_47, cn_47, xl) from by rw [show psrs T n a = pbad 3 a from (zif_t (by rw [e0]; exact Nat.pos_of_ne_zero pbad_nz)).trans e0]; exact ⟨⟨hq13_47, hq14_47, hq15_47, hq16_47, hq17_47, hq18_47, hq20_47, hq5_47, hq12_47, hq11_47⟩, hO_47, rfl, (fun k hk => (hfr_47 k hk)), (fun k hk => (hcr_47 k hk))⟩)⟩, by rw [ht]; exact hP, hD⟩, hS.F ht⟩) hS.2.2 dX3_readSort_54
    · refine lv_aload_n hx hb dX3_readSort_24 rfl (lv_at hl 1 rfl) ?_
      refine lv_iconst (v := nI 1) hx hb dX3_readSort_25 (by decide) ?_
      have hle_26 := hS.1
      refine va_callv (va_runV (As := [.int (nI 1)]) (rest := []) ⟨hx, hb, hml, hown, hts⟩ (m_X3_bad l g ad fi cn xl _ T n a (show PF T n a fi cn from ⟨hq13, hq14, hq15, hq16, hq17, hq18, hq20, hq5, hq12, hq11⟩) hO 1 (by decide)) (cwV 1 hts (lw_V q1442 q1444 qs34 q69 q1445) rfl rfl rfl hdV_X3_bad ⟨Nat.le_of_ble_eq_true rfl, Nat.le_of_ble_eq_true rfl⟩) (zpreV hK hN (va_recv hK hP (ci := 3) (q0 := 0) rfl rfl) ⟨rfl, hP, hD.weaken (fun _ _ _ _ => trivial)⟩) rfl rfl hl.1 rfl (lv_room (Nat.le_of_ble_eq_true rfl)) dX3_readSort_26 ⟨Nat.le_of_ble_eq_true rfl, Nat.le_of_ble_eq_true rfl⟩) hS (fun q _ h => mA_le hS.1 q h) (mA_le hS.1) (fun u t H locs ht hvm hw_26 hB hzz hkk hS => ?_)
      obtain ⟨hP, hD⟩ := hB
      rw [ht] at hP
      have hD := hD.weaken (fun _ _ _ h => mA_le hle_26 _ h)
      obtain ⟨fi_29, cn_29, xl_29⟩ := u
      obtain ⟨_, hPF_29, hO_29, hxl_29, hfr_29, hcr_29⟩ := hw_26
      have hxl_29 : xl = xl_29 := hxl_29.symm
      subst hxl_29
      have hPF_29 : PF T n (pbad 1 a) fi_29 cn_29 := hPF_29
      have hO_29 : PO T n (pbad 1 a) := hO_29
      have ho__29 := hO_29
      obtain ⟨ho1_29, _, _, ho4_29, ho16_29, hoF_29⟩ := ho__29
      have he13_29 := tkE_le (T := T) ho1_29
      have hk15_29 := tkK_le T n (pbad 1 a).1
      obtain ⟨hq13_29, hq14_29, hq15_29, hq16_29, hq17_29, hq18_29, hq20_29, hq5_29, hq12_29, hq11_29⟩ := hPF_29
      have hfr_29 : ∀ k, (k < 13 ∨ 20 < k ∨ k = 19) → fi_29 k = fi k := fun k hk => (hfr_29 k hk).trans rfl
      have hcr_29 : ∀ k, k ≠ 5 → cn_29 k = cn k := fun k hk => (hcr_29 k hk).trans rfl
      have hP : va_P g.1 zCL (mW g ad fi_29 cn_29 xl) _ := hP
      have hD : va_D (mA ad s.heap.size) (mW g ad fi_29 cn_29 xl) := hD
      refine lv_goto (tgt := 47) hx hb dX3_readSort_29 (by decide) ?_
      have e0 : psr0 T n a = pbad 1 a := by unfold psr0; rw [zif_t c_21]
      refine lv_aload_n hx hb dX3_readSort_47 rfl (lv_at hl 1 rfl) ?_
      refine va_get (D := g.1) (ci := 3) (v := .int (fi_29 17)) (C := RX3) (T := TX3) (N := 30) hx hb hts in_X3 hown hK hP 0 rfl rfl 17 (by decide) (hts _ q1314) (fun _ h9 => h9) rfl dX3_readSort_48 ?_
      refine zti (hq17_29) ?_
      refine zi_le (tgt := 55) hx hb (by omega) dX3_readSort_51 (by decide) (fun c_51 => ?_) (fun c_51 => ?_)
      · exact absurd (Nat.pos_of_ne_zero pbad_nz) c_51
      · exact W.vret hx hb hr (fun t ht hW => ⟨⟨(fi_29, cn_29, xl), rfl, ⟨trivial, (show PQ T n (psrs T n a) fi cn xl (fi_29, cn_29, xl) from by rw [show psrs T n a = pbad 1 a from (zif_t (by rw [e0]; exact Nat.pos_of_ne_zero pbad_nz)).trans e0]; exact ⟨⟨hq13_29, hq14_29, hq15_29, hq16_29, hq17_29, hq18_29, hq20_29, hq5_29, hq12_29, hq11_29⟩, hO_29, rfl, (fun k hk => (hfr_29 k hk)), (fun k hk => (hcr_29 k hk))⟩)⟩, by rw [ht]; exact hP, hD⟩, hS.F ht⟩) hS.2.2 dX3_readSort_54
  · refine lv_aload_n hx hb dX3_readSort_0 rfl (lv_at hl 0 rfl) ?_
    refine va_get (D := g.1) (ci := 3) (v := .int (fi 15)) (C := RX3) (T := TX3) (N := 30) hx hb hts in_X3 hown hK hP 0 rfl rfl 15 (by decide) (hts _ q1312) (fun _ h9 => h9) rfl dX3_readSort_1 ?_
    refine zti (hq15) ?_
    refine lv_iconst (v := nI 2) hx hb dX3_readSort_4 (by decide) ?_
    refine zc_ne (tgt := 18) hx hb (by omega) (by omega) dX3_readSort_5 (by decide) (fun c_5 => ?_) (fun c_5 => ?_)
    · refine lv_iconst (v := nI 0) hx hb dX3_readSort_18 (by decide) ?_
      exact jn_0 _ ((congrArg nI (zif_f c_5)).symm)
    · refine lv_aload_n hx hb dX3_readSort_8 rfl (lv_at hl 0 rfl) ?_
      refine va_get (D := g.1) (ci := 3) (v := .int (fi 16)) (C := RX3) (T := TX3) (N := 30) hx hb hts in_X3 hown hK hP 0 rfl rfl 16 (by decide) (hts _ q1313) (fun _ h9 => h9) rfl dX3_readSort_9 ?_
      refine zti (hq16) ?_
      refine vp_callSi (W.runS (As := [.int (tkV T n a.1)]) (rest := []) ⟨hx, hb, hml, hown, hts⟩ (m_X3_sortOf l g (tkV T n a.1)) (va_cwS 1 hts (lw_S q1458 q1459 q69 q1460) rfl rfl rfl hdS_X3_sortOf ⟨Nat.le_of_ble_eq_true rfl, Nat.le_of_ble_eq_true rfl⟩) (zpreS hK hN trivial) rfl rfl hl.1 rfl (lv_room (Nat.le_of_ble_eq_true rfl)) dX3_readSort_12 ⟨Nat.le_of_ble_eq_true rfl, Nat.le_of_ble_eq_true rfl⟩) (fun r_12 hr_12 => ?_)
      subst hr_12
      refine lv_goto (tgt := 19) hx hb dX3_readSort_15 (by decide) ?_
      exact jn_0 _ ((congrArg nI (zif_t c_5)).symm)

set_option maxHeartbeats 4000000 in
set_option maxRecDepth 100000 in
theorem m_X3_book (l : Launch) (g : zG) (ad : Nat → Nat) (fi : Nat → Int32) (cn : Nat → Nat → Int32) (xl : Nat → Nat → Int64) (sz : Nat) (S : zS) (hM : MR S fi cn) (hX : MX fi cn xl) (hI : SI S) : Met l yX3_book (ws_ yX3_book cX3_book 2 (some .int)) ({ frames := 5, cells := 0, slots := 0, locals := 111 }) (zPc g [.ref (ad 0)] (mH g ad fi cn xl sz)) (va_Qi (fun (r9 : Int32) u => r9 = (opBook S ).1 ∧ MR (opBook S ).2 u.1 u.2.1 ∧ MX u.1 u.2.1 u.2.2) (mB g ad sz) (mA ad sz)) 0 0 (mA ad sz) := by
  refine Met.ofW (cc := cX3_book) (maxL := 2) (ret := (some .int)) (by decide) rfl ?_
  intro p e s m args below meth c s₁ B0 hml hv
  obtain ⟨rfl, ⟨hK, hN⟩, hsz, hP, hD⟩ := hv
  have hx := B0.exec
  have hb := B0.bytes
  have hr := B0.returns
  have hts := atoms_spec (ws := ws_ yX3_book cX3_book 2 (some .int)) B0.pre
  have hts : ∀ w ∈ lw_all, w.before _ s = true := fun w h => hts w (List.mem_cons_of_mem _ h)
  have hown : s.vm.findClass RX3 = some m.cls := findClass_of_methodNamed B0.named
  have hlocks := B0.notSynchronized
  subst hsz
  have hD := mD_self s.heap.size hD
  have hS : va_S (mA ad s.heap.size) s.heap s.heap [] := va_S.rf
  have hl := lv_entry ([.ref (ad 0)]) (n := 2) (Nat.le_of_ble_eq_true rfl)
  rw [lg_entry_eq]
  generalize (lg_sl ([.ref (ad 0)]) ++ List.replicate (2 - (lg_sl ([.ref (ad 0)])).length) Slot.unset).toArray = ls at hl ⊢
  have hl : lv_has ls 2 [(0, .ref (ad 0))] := hl
  obtain ⟨hf0, hf8, hf12, hf19, hf29, hc1, hc2, hc3, hc4, hc7, hc11, hc26, hc27, hc28⟩ := hM
  obtain ⟨F5, F6, F9, F10, F24, E25, N21, N22, b23, hc5, hc6, hc9, hc10, hc24, hc25, hc21, hc22, hf23⟩ := hX
  have hB : bOK (S.2.1 4) := hI.1
  have h0 : S.2.1 4 0 ≤ 4 := hB.n4
  have h3 : S.2.1 4 3 ≤ 8 := hB.r8
  have hac := hI.2.2.1
  have hta := hI.2.2.2.1
  have hmn := hI.2.2.2.2.2.2.1
  have htn := hI.2.2.2.2.2.1
  obtain ⟨T, hT11⟩ : ∃ T, S.2.1 11 = T := ⟨_, rfl⟩
  obtain ⟨n, hn12⟩ : ∃ n, S.1 12 = n := ⟨_, rfl⟩
  have hT11b : cn 11 = nF T := by rw [← hT11]; exact hc11
  have hn12b : fi 12 = nI n := by rw [← hn12]; exact hf12
  have hn120 : n ≤ 120 := by rw [← hn12]; exact hta
  have hT : ∀ j, T j < 256 := by rw [← hT11]; exact hI.2.2.2.2.2.2.2.2.2.1
  have hk15 := tkK_le T n 0
  refine lv_aload_n hx hb dX3_book_0 rfl (lv_at hl 0 rfl) ?_
  refine lv_iconst (v := nI 0) hx hb dX3_book_1 (by decide) ?_
  refine va_put (D := g.1) (ci := 3) (v := .int (nI 0)) (ty := .int) (C := RX3) (T := TX3) (N := 30) hx hb hts in_X3 tyX3 tyX3_ok nmX3 hown hK hP hD hS 0 rfl rfl 13 (by decide) (hts _ q1310) (fun _ h9 => h9) rfl (by decide +kernel) rfl rfl (Nat.le_of_ble_eq_true rfl) dX3_book_2 (fun H locs hP hD hS => ?_)
  have hP : va_P g.1 zCL (mW g ad (va_up fi 13 (nI 0)) cn xl) _ := hP
  have hD : va_D (mA ad s.heap.size) (mW g ad (va_up fi 13 (nI 0)) cn xl) := hD
  refine lv_aload_n hx hb dX3_book_5 rfl (lv_at hl 0 rfl) ?_
  refine lv_iconst (v := nI 0) hx hb dX3_book_6 (by decide) ?_
  refine va_put (D := g.1) (ci := 3) (v := .int (nI 0)) (ty := .int) (C := RX3) (T := TX3) (N := 30) hx hb hts in_X3 tyX3 tyX3_ok nmX3 hown hK hP hD hS 0 rfl rfl 17 (by decide) (hts _ q1314) (fun _ h9 => h9) rfl (by decide +kernel) rfl rfl (Nat.le_of_ble_eq_true rfl) dX3_book_7 (fun H locs hP hD hS => ?_)
  have hP : va_P g.1 zCL (mW g ad (va_up (va_up fi 13 (nI 0)) 17 (nI 0)) cn xl) _ := hP
  have hD : va_D (mA ad s.heap.size) (mW g ad (va_up (va_up fi 13 (nI 0)) 17 (nI 0)) cn xl) := hD
  refine lv_aload_n hx hb dX3_book_10 rfl (lv_at hl 0 rfl) ?_
  refine lv_iconst (v := nI 0) hx hb dX3_book_11 (by decide) ?_
  refine va_put (D := g.1) (ci := 3) (v := .int (nI 0)) (ty := .int) (C := RX3) (T := TX3) (N := 30) hx hb hts in_X3 tyX3 tyX3_ok nmX3 hown hK hP hD hS 0 rfl rfl 20 (by decide) (hts _ q1317) (fun _ h9 => h9) rfl (by decide +kernel) rfl rfl (Nat.le_of_ble_eq_true rfl) dX3_book_12 (fun H locs hP hD hS => ?_)
  have hP : va_P g.1 zCL (mW g ad (va_up (va_up (va_up fi 13 (nI 0)) 17 (nI 0)) 20 (nI 0)) cn xl) _ := hP
  have hD : va_D (mA ad s.heap.size) (mW g ad (va_up (va_up (va_up fi 13 (nI 0)) 17 (nI 0)) 20 (nI 0)) cn xl) := hD
  refine lv_aload_n hx hb dX3_book_15 rfl (lv_at hl 0 rfl) ?_
  have hle_16 := hS.1
  refine va_callv (va_runV (As := []) (rest := []) ⟨hx, hb, hml, hown, hts⟩ (m_X3_nextToken l g ad (va_up (va_up (va_up fi 13 (nI 0)) 17 (nI 0)) 20 (nI 0)) cn xl _ T n 0 hT11b hn12b rfl (by omega) (by omega) hT) (cwV 0 hts (lw_V q1429 q1431 qs32 q69 q1432) rfl rfl rfl hdV_X3_nextToken ⟨Nat.le_of_ble_eq_true rfl, Nat.le_of_ble_eq_true rfl⟩) (zpreV hK hN (va_recv hK hP (ci := 3) (q0 := 0) rfl rfl) ⟨rfl, hP, hD.weaken (fun _ _ _ _ => trivial)⟩) rfl rfl hl.1 rfl (lv_room (Nat.le_of_ble_eq_true rfl)) dX3_book_16 ⟨Nat.le_of_ble_eq_true rfl, Nat.le_of_ble_eq_true rfl⟩) hS (fun q _ h => mA_le hS.1 q h) (mA_le hS.1) (fun u t H locs ht hvm hw_16 hB hzz hkk hS => ?_)
  obtain ⟨hP, hD⟩ := hB
  rw [ht] at hP
  have hD := hD.weaken (fun _ _ _ h => mA_le hle_16 _ h)
  obtain ⟨_, rfl⟩ := hw_16
  have hP : va_P g.1 zCL (mW g ad (va_up (va_up (va_up (va_up (va_up (va_up fi 13 (nI (tkE T n 0))) 14 (nI 0)) 15 (nI (tkK T n 0))) 16 (tkV T n 0)) 17 (nI 0)) 20 (nI 0)) cn xl) _ := hP
  have hD : va_D (mA ad s.heap.size) (mW g ad (va_up (va_up (va_up (va_up (va_up (va_up fi 13 (nI (tkE T n 0))) 14 (nI 0)) 15 (nI (tkK T n 0))) 16 (tkV T n 0)) 17 (nI 0)) 20 (nI 0)) cn xl) := hD
  refine lv_iconst (v := nI 0) hx hb dX3_book_19 (by decide) ?_
  refine lv_istore_n (lv' := [(1, .int (nI 0)), (0, .ref (ad 0))]) hx hb dX3_book_20 rfl hl (by decide) rfl (fun ls hl => ?_)
  refine zloopW (head := 21) (44) (fun k H locs cells slots ls => cells = 0 ∧ slots = 0 ∧ va_P g.1 zCL (mW g ad (va_up (va_up (va_up (va_up (va_up (va_up fi 13 (nI (tkE T n 0))) 14 (nI 0)) 15 (nI (tkK T n 0))) 16 (tkV T n 0)) 17 (nI 0)) 20 (nI 0)) (va_up cn 5 (nF (va_cpy (fun _ => 0) F5 0 0 k))) xl) H ∧ va_D (mA ad s.heap.size) (mW g ad (va_up (va_up (va_up (va_up (va_up (va_up fi 13 (nI (tkE T n 0))) 14 (nI 0)) 15 (nI (tkK T n 0))) 16 (tkV T n 0)) 17 (nI 0)) 20 (nI 0)) (va_up cn 5 (nF (va_cpy (fun _ => 0) F5 0 0 k))) xl) ∧ va_S (mA ad s.heap.size) s.heap H locs ∧ lv_has ls 2 [(0, .ref (ad 0)), (1, .int (nI k))]) (fun k hv_k ih_21 H locs cells slots ls hI => ?_) 0 (Nat.zero_le _) ?_
  · obtain ⟨rfl, rfl, hP, hD, hS, hl⟩ := hI
    refine lv_iload_n hx hb dX3_book_21 rfl (lv_at hl 1 rfl) ?_
    refine lv_bipush (v := nI 44) hx hb dX3_book_22 (by decide) ?_
    refine zc_ge (tgt := 40) hx hb (by omega) (by omega) dX3_book_24 (by decide) (fun c_24 => ?_) (fun c_24 => ?_)
    · obtain rfl : 44 = k := by omega
      obtain ⟨hP, hD⟩ := hP.exi hD 5 (f' := nF (fun _ => 0)) rfl (fun j hj => by show nI (va_cpy _ _ 0 0 44 j) = nI 0; rw [zcpy_in (by omega) (by omega)])
      have hP : va_P g.1 zCL (mW g ad (va_up (va_up (va_up (va_up (va_up (va_up fi 13 (nI (tkE T n 0))) 14 (nI 0)) 15 (nI (tkK T n 0))) 16 (tkV T n 0)) 17 (nI 0)) 20 (nI 0)) (va_up cn 5 (nF (fun _ => 0))) xl) _ := hP
      have hD : va_D (mA ad s.heap.size) (mW g ad (va_up (va_up (va_up (va_up (va_up (va_up fi 13 (nI (tkE T n 0))) 14 (nI 0)) 15 (nI (tkK T n 0))) 16 (tkV T n 0)) 17 (nI 0)) 20 (nI 0)) (va_up cn 5 (nF (fun _ => 0))) xl) := hD
      have hO_B : PO T n ((0, 0, nI 0, 0, fun _ => 0) : pS) := ⟨Nat.zero_le _, hn120, hT, by decide, by decide, by decide⟩
      have hq18_B : 0 < 0 → fi 18 = nI 0 := fun z => absurd z (Nat.lt_irrefl 0)
      have hq12_B := hn12b
      have hq11_B := hT11b
      refine lv_aload_n hx hb dX3_book_40 rfl (lv_at hl 0 rfl) ?_
      refine zjoin (ls := ls) (α := Int32) (fun v9 => v9 = zB (pisX T n 114 0)) (fun v9 => .int v9 :: [.ref (ad 0)]) 63 (fun v9 hv => ?_) (fun jn_41 => ?_)
      · subst hv
        have hle_63 := hS.1
        refine va_callv (va_runV (As := [.int (zB (pisX T n 114 0))]) (rest := []) ⟨hx, hb, hml, hown, hts⟩ (m_X3_must l g ad (va_up (va_up (va_up (va_up (va_up (va_up fi 13 (nI (tkE T n 0))) 14 (nI 0)) 15 (nI (tkK T n 0))) 16 (tkV T n 0)) 17 (nI 0)) 20 (nI 0)) (va_up cn 5 (nF (fun _ => 0))) xl _ T n ((0, 0, nI 0, 0, fun _ => 0) : pS) (show PF T n ((0, 0, nI 0, 0, fun _ => 0) : pS) (va_up (va_up (va_up (va_up (va_up (va_up fi 13 (nI (tkE T n 0))) 14 (nI 0)) 15 (nI (tkK T n 0))) 16 (tkV T n 0)) 17 (nI 0)) 20 (nI 0)) (va_up cn 5 (nF (fun _ => 0))) from ⟨rfl, rfl, rfl, rfl, rfl, hq18_B, rfl, rfl, hq12_B, hq11_B⟩) hO_B (pisX T n 114 0)) (cwV 1 hts (lw_V q1438 q1440 qs33 q69 q1441) rfl rfl rfl hdV_X3_must ⟨Nat.le_of_ble_eq_true rfl, Nat.le_of_ble_eq_true rfl⟩) (zpreV hK hN (va_recv hK hP (ci := 3) (q0 := 0) rfl rfl) ⟨rfl, hP, hD.weaken (fun _ _ _ _ => trivial)⟩) rfl rfl hl.1 rfl (lv_room (Nat.le_of_ble_eq_true rfl)) dX3_book_63 ⟨Nat.le_of_ble_eq_true rfl, Nat.le_of_ble_eq_true rfl⟩) hS (fun q _ h => mA_le hS.1 q h) (mA_le hS.1) (fun u t H locs ht hvm hw_63 hB hzz hkk hS => ?_)
        obtain ⟨hP, hD⟩ := hB
        rw [ht] at hP
        have hD := hD.weaken (fun _ _ _ h => mA_le hle_63 _ h)
        obtain ⟨fi_66, cn_66, xl_66⟩ := u
        obtain ⟨_, hPF_66, hO_66, hxl_66, hfr_66, hcr_66⟩ := hw_63
        have hxl_66 : xl = xl_66 := hxl_66.symm
        subst hxl_66
        have hPF_66 : PF T n (pmust T n (pisX T n 114 0) ((0, 0, nI 0, 0, fun _ => 0) : pS)) fi_66 cn_66 := hPF_66
        have hO_66 : PO T n (pmust T n (pisX T n 114 0) ((0, 0, nI 0, 0, fun _ => 0) : pS)) := hO_66
        have ho__66 := hO_66
        obtain ⟨ho1_66, _, _, ho4_66, ho16_66, hoF_66⟩ := ho__66
        have he13_66 := tkE_le (T := T) ho1_66
        have hk15_66 := tkK_le T n (pmust T n (pisX T n 114 0) ((0, 0, nI 0, 0, fun _ => 0) : pS)).1
        obtain ⟨hq13_66, hq14_66, hq15_66, hq16_66, hq17_66, hq18_66, hq20_66, hq5_66, hq12_66, hq11_66⟩ := hPF_66
        have hfr_66 : ∀ k, (k < 13 ∨ 20 < k ∨ k = 19) → fi_66 k = fi k := fun k hk => (hfr_66 k hk).trans ((va_up_ne _ _ (by omega)).trans ((va_up_ne _ _ (by omega)).trans ((va_up_ne _ _ (by omega)).trans ((va_up_ne _ _ (by omega)).trans ((va_up_ne _ _ (by omega)).trans ((va_up_ne _ _ (by omega)).trans rfl))))))
        have hcr_66 : ∀ k, k ≠ 5 → cn_66 k = cn k := fun k hk => (hcr_66 k hk).trans ((va_up_ne _ _ hk).trans rfl)
        have hP : va_P g.1 zCL (mW g ad fi_66 cn_66 xl) _ := hP
        have hD : va_D (mA ad s.heap.size) (mW g ad fi_66 cn_66 xl) := hD
        refine lv_aload_n hx hb dX3_book_66 rfl (lv_at hl 0 rfl) ?_
        refine va_get (D := g.1) (ci := 3) (v := .ref (ad 5)) (C := RX3) (T := TX3) (N := 30) hx hb hts in_X3 hown hK hP 0 rfl rfl 5 (by decide) (hts _ q1302) (fun _ h9 => h9) rfl dX3_book_67 ?_
        refine lv_iconst (v := nI 1) hx hb dX3_book_70 (by decide) ?_
        refine lv_aload_n hx hb dX3_book_71 rfl (lv_at hl 0 rfl) ?_
        refine lv_iconst (v := nI 0) hx hb dX3_book_72 (by decide) ?_
        refine lv_iconst (v := nI 3) hx hb dX3_book_73 (by decide) ?_
        have hle_74 := hS.1
        refine va_calli (va_runV (As := [.int (nI 0), .int (nI 3)]) (rest := [.int (nI 1), .ref (ad 5)]) ⟨hx, hb, hml, hown, hts⟩ (m_X3_figure l g ad fi_66 cn_66 xl _ T n (pmust T n (pisX T n 114 0) ((0, 0, nI 0, 0, fun _ => 0) : pS)) (show PF T n (pmust T n (pisX T n 114 0) ((0, 0, nI 0, 0, fun _ => 0) : pS)) fi_66 cn_66 from ⟨hq13_66, hq14_66, hq15_66, hq16_66, hq17_66, hq18_66, hq20_66, hq5_66, hq12_66, hq11_66⟩) hO_66 0 3 (by decide) (by decide)) (cwV 2 hts (lw_V q1446 q1448 qs35 q69 q1449) rfl rfl rfl hdV_X3_figure ⟨Nat.le_of_ble_eq_true rfl, Nat.le_of_ble_eq_true rfl⟩) (zpreV hK hN (va_recv hK hP (ci := 3) (q0 := 0) rfl rfl) ⟨rfl, hP, hD.weaken (fun _ _ _ _ => trivial)⟩) rfl rfl hl.1 rfl (lv_room (Nat.le_of_ble_eq_true rfl)) dX3_book_74 ⟨Nat.le_of_ble_eq_true rfl, Nat.le_of_ble_eq_true rfl⟩) hS (fun q _ h => mA_le hS.1 q h) (mA_le hS.1) (fun r_74 u t H locs ht hvm hw_74 hB hzz hkk hS => ?_)
        obtain ⟨hP, hD⟩ := hB
        rw [ht] at hP
        have hD := hD.weaken (fun _ _ _ h => mA_le hle_74 _ h)
        obtain ⟨fi_77, cn_77, xl_77⟩ := u
        obtain ⟨rfl, hPF_77, hO_77, hxl_77, hfr_77, hcr_77⟩ := hw_74
        have hxl_77 : xl = xl_77 := hxl_77.symm
        subst hxl_77
        have hPF_77 : PF T n (pfgs T n 0 3 (pmust T n (pisX T n 114 0) ((0, 0, nI 0, 0, fun _ => 0) : pS))) fi_77 cn_77 := hPF_77
        have hO_77 : PO T n (pfgs T n 0 3 (pmust T n (pisX T n 114 0) ((0, 0, nI 0, 0, fun _ => 0) : pS))) := hO_77
        have ho__77 := hO_77
        obtain ⟨ho1_77, _, _, ho4_77, ho16_77, hoF_77⟩ := ho__77
        have he13_77 := tkE_le (T := T) ho1_77
        have hk15_77 := tkK_le T n (pfgs T n 0 3 (pmust T n (pisX T n 114 0) ((0, 0, nI 0, 0, fun _ => 0) : pS))).1
        obtain ⟨hq13_77, hq14_77, hq15_77, hq16_77, hq17_77, hq18_77, hq20_77, hq5_77, hq12_77, hq11_77⟩ := hPF_77
        have hfr_77 : ∀ k, (k < 13 ∨ 20 < k ∨ k = 19) → fi_77 k = fi k := fun k hk => (hfr_77 k hk).trans (hfr_66 k hk)
        have hcr_77 : ∀ k, k ≠ 5 → cn_77 k = cn k := fun k hk => (hcr_77 k hk).trans (hcr_66 k hk)
        have hP : va_P g.1 zCL (mW g ad fi_77 cn_77 xl) _ := hP
        have hD : va_D (mA ad s.heap.size) (mW g ad fi_77 cn_77 xl) := hD
        refine zast (f := cn_77 5) hx hb hK hP hD hS 5 0 rfl rfl (j := 1) (by omega) (by decide) dX3_book_77 (fun H locs hP hD hS => ?_)
        rw [hq5_77] at hP hD
        rw [nF_up] at hP hD
        have hP : va_P g.1 zCL (mW g ad fi_77 (va_up cn_77 5 (nF (va_up ((pfgs T n 0 3 (pmust T n (pisX T n 114 0) ((0, 0, nI 0, 0, fun _ => 0) : pS))).2.2.2.2) 1 (pfgv T n 0 3 (pmust T n (pisX T n 114 0) ((0, 0, nI 0, 0, fun _ => 0) : pS)))))) xl) _ := hP
        have hD : va_D (mA ad s.heap.size) (mW g ad fi_77 (va_up cn_77 5 (nF (va_up ((pfgs T n 0 3 (pmust T n (pisX T n 114 0) ((0, 0, nI 0, 0, fun _ => 0) : pS))).2.2.2.2) 1 (pfgv T n 0 3 (pmust T n (pisX T n 114 0) ((0, 0, nI 0, 0, fun _ => 0) : pS)))))) xl) := hD
        have hO_k78 : PO T n (pfgm T n 0 3 1 (pmust T n (pisX T n 114 0) ((0, 0, nI 0, 0, fun _ => 0) : pS))) := hO_77.set (Or.inl (by decide))
        refine lv_aload_n hx hb dX3_book_78 rfl (lv_at hl 0 rfl) ?_
        refine lv_bipush (v := nI 44) hx hb dX3_book_79 (by decide) ?_
        have hle_81 := hS.1
        refine va_callv (va_runV (As := [.int (nI 44)]) (rest := []) ⟨hx, hb, hml, hown, hts⟩ (m_X3_mustSign l g ad fi_77 (va_up cn_77 5 (nF (va_up ((pfgs T n 0 3 (pmust T n (pisX T n 114 0) ((0, 0, nI 0, 0, fun _ => 0) : pS))).2.2.2.2) 1 (pfgv T n 0 3 (pmust T n (pisX T n 114 0) ((0, 0, nI 0, 0, fun _ => 0) : pS)))))) xl _ T n (pfgm T n 0 3 1 (pmust T n (pisX T n 114 0) ((0, 0, nI 0, 0, fun _ => 0) : pS))) (show PF T n (pfgm T n 0 3 1 (pmust T n (pisX T n 114 0) ((0, 0, nI 0, 0, fun _ => 0) : pS))) fi_77 (va_up cn_77 5 (nF (va_up ((pfgs T n 0 3 (pmust T n (pisX T n 114 0) ((0, 0, nI 0, 0, fun _ => 0) : pS))).2.2.2.2) 1 (pfgv T n 0 3 (pmust T n (pisX T n 114 0) ((0, 0, nI 0, 0, fun _ => 0) : pS)))))) from ⟨hq13_77, hq14_77, hq15_77, hq16_77, hq17_77, hq18_77, hq20_77, rfl, hq12_77, hq11_77⟩) hO_k78 44 (by decide)) (cwV 1 hts (lw_V q1450 q1452 qs36 q69 q1453) rfl rfl rfl hdV_X3_mustSign ⟨Nat.le_of_ble_eq_true rfl, Nat.le_of_ble_eq_true rfl⟩) (zpreV hK hN (va_recv hK hP (ci := 3) (q0 := 0) rfl rfl) ⟨rfl, hP, hD.weaken (fun _ _ _ _ => trivial)⟩) rfl rfl hl.1 rfl (lv_room (Nat.le_of_ble_eq_true rfl)) dX3_book_81 ⟨Nat.le_of_ble_eq_true rfl, Nat.le_of_ble_eq_true rfl⟩) hS (fun q _ h => mA_le hS.1 q h) (mA_le hS.1) (fun u t H locs ht hvm hw_81 hB hzz hkk hS => ?_)
        obtain ⟨hP, hD⟩ := hB
        rw [ht] at hP
        have hD := hD.weaken (fun _ _ _ h => mA_le hle_81 _ h)
        obtain ⟨fi_84, cn_84, xl_84⟩ := u
        obtain ⟨_, hPF_84, hO_84, hxl_84, hfr_84, hcr_84⟩ := hw_81
        have hxl_84 : xl = xl_84 := hxl_84.symm
        subst hxl_84
        have hPF_84 : PF T n (psgn T n 44 (pfgm T n 0 3 1 (pmust T n (pisX T n 114 0) ((0, 0, nI 0, 0, fun _ => 0) : pS)))) fi_84 cn_84 := hPF_84
        have hO_84 : PO T n (psgn T n 44 (pfgm T n 0 3 1 (pmust T n (pisX T n 114 0) ((0, 0, nI 0, 0, fun _ => 0) : pS)))) := hO_84
        have ho__84 := hO_84
        obtain ⟨ho1_84, _, _, ho4_84, ho16_84, hoF_84⟩ := ho__84
        have he13_84 := tkE_le (T := T) ho1_84
        have hk15_84 := tkK_le T n (psgn T n 44 (pfgm T n 0 3 1 (pmust T n (pisX T n 114 0) ((0, 0, nI 0, 0, fun _ => 0) : pS)))).1
        obtain ⟨hq13_84, hq14_84, hq15_84, hq16_84, hq17_84, hq18_84, hq20_84, hq5_84, hq12_84, hq11_84⟩ := hPF_84
        have hfr_84 : ∀ k, (k < 13 ∨ 20 < k ∨ k = 19) → fi_84 k = fi k := fun k hk => (hfr_84 k hk).trans (hfr_77 k hk)
        have hcr_84 : ∀ k, k ≠ 5 → cn_84 k = cn k := fun k hk => (hcr_84 k hk).trans ((va_up_ne _ _ hk).trans (hcr_77 k hk))
        have hP : va_P g.1 zCL (mW g ad fi_84 cn_84 xl) _ := hP
        have hD : va_D (mA ad s.heap.size) (mW g ad fi_84 cn_84 xl) := hD
        refine lv_aload_n hx hb dX3_book_84 rfl (lv_at hl 0 rfl) ?_
        refine va_get (D := g.1) (ci := 3) (v := .ref (ad 5)) (C := RX3) (T := TX3) (N := 30) hx hb hts in_X3 hown hK hP 0 rfl rfl 5 (by decide) (hts _ q1302) (fun _ h9 => h9) rfl dX3_book_85 ?_
        refine lv_iconst (v := nI 2) hx hb dX3_book_88 (by decide) ?_
        refine lv_aload_n hx hb dX3_book_89 rfl (lv_at hl 0 rfl) ?_
        refine lv_iconst (v := nI 1) hx hb dX3_book_90 (by decide) ?_
        refine lv_bipush (v := nI 9) hx hb dX3_book_91 (by decide) ?_
        have hle_93 := hS.1
        refine va_calli (va_runV (As := [.int (nI 1), .int (nI 9)]) (rest := [.int (nI 2), .ref (ad 5)]) ⟨hx, hb, hml, hown, hts⟩ (m_X3_figure l g ad fi_84 cn_84 xl _ T n (psgn T n 44 (pfgm T n 0 3 1 (pmust T n (pisX T n 114 0) ((0, 0, nI 0, 0, fun _ => 0) : pS)))) (show PF T n (psgn T n 44 (pfgm T n 0 3 1 (pmust T n (pisX T n 114 0) ((0, 0, nI 0, 0, fun _ => 0) : pS)))) fi_84 cn_84 from ⟨hq13_84, hq14_84, hq15_84, hq16_84, hq17_84, hq18_84, hq20_84, hq5_84, hq12_84, hq11_84⟩) hO_84 1 9 (by decide) (by decide)) (cwV 2 hts (lw_V q1446 q1448 qs35 q69 q1449) rfl rfl rfl hdV_X3_figure ⟨Nat.le_of_ble_eq_true rfl, Nat.le_of_ble_eq_true rfl⟩) (zpreV hK hN (va_recv hK hP (ci := 3) (q0 := 0) rfl rfl) ⟨rfl, hP, hD.weaken (fun _ _ _ _ => trivial)⟩) rfl rfl hl.1 rfl (lv_room (Nat.le_of_ble_eq_true rfl)) dX3_book_93 ⟨Nat.le_of_ble_eq_true rfl, Nat.le_of_ble_eq_true rfl⟩) hS (fun q _ h => mA_le hS.1 q h) (mA_le hS.1) (fun r_93 u t H locs ht hvm hw_93 hB hzz hkk hS => ?_)
        obtain ⟨hP, hD⟩ := hB
        rw [ht] at hP
        have hD := hD.weaken (fun _ _ _ h => mA_le hle_93 _ h)
        obtain ⟨fi_96, cn_96, xl_96⟩ := u
        obtain ⟨rfl, hPF_96, hO_96, hxl_96, hfr_96, hcr_96⟩ := hw_93
        have hxl_96 : xl = xl_96 := hxl_96.symm
        subst hxl_96
        have hPF_96 : PF T n (pfgs T n 1 9 (psgn T n 44 (pfgm T n 0 3 1 (pmust T n (pisX T n 114 0) ((0, 0, nI 0, 0, fun _ => 0) : pS))))) fi_96 cn_96 := hPF_96
        have hO_96 : PO T n (pfgs T n 1 9 (psgn T n 44 (pfgm T n 0 3 1 (pmust T n (pisX T n 114 0) ((0, 0, nI 0, 0, fun _ => 0) : pS))))) := hO_96
        have ho__96 := hO_96
        obtain ⟨ho1_96, _, _, ho4_96, ho16_96, hoF_96⟩ := ho__96
        have he13_96 := tkE_le (T := T) ho1_96
        have hk15_96 := tkK_le T n (pfgs T n 1 9 (psgn T n 44 (pfgm T n 0 3 1 (pmust T n (pisX T n 114 0) ((0, 0, nI 0, 0, fun _ => 0) : pS))))).1
        obtain ⟨hq13_96, hq14_96, hq15_96, hq16_96, hq17_96, hq18_96, hq20_96, hq5_96, hq12_96, hq11_96⟩ := hPF_96
        have hfr_96 : ∀ k, (k < 13 ∨ 20 < k ∨ k = 19) → fi_96 k = fi k := fun k hk => (hfr_96 k hk).trans (hfr_84 k hk)
        have hcr_96 : ∀ k, k ≠ 5 → cn_96 k = cn k := fun k hk => (hcr_96 k hk).trans (hcr_84 k hk)
        have hP : va_P g.1 zCL (mW g ad fi_96 cn_96 xl) _ := hP
        have hD : va_D (mA ad s.heap.size) (mW g ad fi_96 cn_96 xl) := hD
        refine zast (f := cn_96 5) hx hb hK hP hD hS 5 0 rfl rfl (j := 2) (by omega) (by decide) dX3_book_96 (fun H locs hP hD hS => ?_)
        rw [hq5_96] at hP hD
        rw [nF_up] at hP hD
        have hP : va_P g.1 zCL (mW g ad fi_96 (va_up cn_96 5 (nF (va_up ((pfgs T n 1 9 (psgn T n 44 (pfgm T n 0 3 1 (pmust T n (pisX T n 114 0) ((0, 0, nI 0, 0, fun _ => 0) : pS))))).2.2.2.2) 2 (pfgv T n 1 9 (psgn T n 44 (pfgm T n 0 3 1 (pmust T n (pisX T n 114 0) ((0, 0, nI 0, 0, fun _ => 0) : pS)))))))) xl) _ := hP
        have hD : va_D (mA ad s.heap.size) (mW g ad fi_96 (va_up cn_96 5 (nF (va_up ((pfgs T n 1 9 (psgn T n 44 (pfgm T n 0 3 1 (pmust T n (pisX T n 114 0) ((0, 0, nI 0, 0, fun _ => 0) : pS))))).2.2.2.2) 2 (pfgv T n 1 9 (psgn T n 44 (pfgm T n 0 3 1 (pmust T n (pisX T n 114 0) ((0, 0, nI 0, 0, fun _ => 0) : pS)))))))) xl) := hD
        have hO_k97 : PO T n (pfgm T n 1 9 2 (psgn T n 44 (pfgm T n 0 3 1 (pmust T n (pisX T n 114 0) ((0, 0, nI 0, 0, fun _ => 0) : pS))))) := hO_96.set (Or.inl (by decide))
        refine lv_aload_n hx hb dX3_book_97 rfl (lv_at hl 0 rfl) ?_
        refine lv_bipush (v := nI 59) hx hb dX3_book_98 (by decide) ?_
        have hle_100 := hS.1
        refine va_callv (va_runV (As := [.int (nI 59)]) (rest := []) ⟨hx, hb, hml, hown, hts⟩ (m_X3_mustSign l g ad fi_96 (va_up cn_96 5 (nF (va_up ((pfgs T n 1 9 (psgn T n 44 (pfgm T n 0 3 1 (pmust T n (pisX T n 114 0) ((0, 0, nI 0, 0, fun _ => 0) : pS))))).2.2.2.2) 2 (pfgv T n 1 9 (psgn T n 44 (pfgm T n 0 3 1 (pmust T n (pisX T n 114 0) ((0, 0, nI 0, 0, fun _ => 0) : pS)))))))) xl _ T n (pfgm T n 1 9 2 (psgn T n 44 (pfgm T n 0 3 1 (pmust T n (pisX T n 114 0) ((0, 0, nI 0, 0, fun _ => 0) : pS))))) (show PF T n (pfgm T n 1 9 2 (psgn T n 44 (pfgm T n 0 3 1 (pmust T n (pisX T n 114 0) ((0, 0, nI 0, 0, fun _ => 0) : pS))))) fi_96 (va_up cn_96 5 (nF (va_up ((pfgs T n 1 9 (psgn T n 44 (pfgm T n 0 3 1 (pmust T n (pisX T n 114 0) ((0, 0, nI 0, 0, fun _ => 0) : pS))))).2.2.2.2) 2 (pfgv T n 1 9 (psgn T n 44 (pfgm T n 0 3 1 (pmust T n (pisX T n 114 0) ((0, 0, nI 0, 0, fun _ => 0) : pS)))))))) from ⟨hq13_96, hq14_96, hq15_96, hq16_96, hq17_96, hq18_96, hq20_96, rfl, hq12_96, hq11_96⟩) hO_k97 59 (by decide)) (cwV 1 hts (lw_V q1450 q1452 qs36 q69 q1453) rfl rfl rfl hdV_X3_mustSign ⟨Nat.le_of_ble_eq_true rfl, Nat.le_of_ble_eq_true rfl⟩) (zpreV hK hN (va_recv hK hP (ci := 3) (q0 := 0) rfl rfl) ⟨rfl, hP, hD.weaken (fun _ _ _ _ => trivial)⟩) rfl rfl hl.1 rfl (lv_room (Nat.le_of_ble_eq_true rfl)) dX3_book_100 ⟨Nat.le_of_ble_eq_true rfl, Nat.le_of_ble_eq_true rfl⟩) hS (fun q _ h => mA_le hS.1 q h) (mA_le hS.1) (fun u t H locs ht hvm hw_100 hB hzz hkk hS => ?_)
        obtain ⟨hP, hD⟩ := hB
        rw [ht] at hP
        have hD := hD.weaken (fun _ _ _ h => mA_le hle_100 _ h)
        obtain ⟨fi_103, cn_103, xl_103⟩ := u
        obtain ⟨_, hPF_103, hO_103, hxl_103, hfr_103, hcr_103⟩ := hw_100
        have hxl_103 : xl = xl_103 := hxl_103.symm
        subst hxl_103
        have hPF_103 : PF T n (psgn T n 59 (pfgm T n 1 9 2 (psgn T n 44 (pfgm T n 0 3 1 (pmust T n (pisX T n 114 0) ((0, 0, nI 0, 0, fun _ => 0) : pS)))))) fi_103 cn_103 := hPF_103
        have hO_103 : PO T n (psgn T n 59 (pfgm T n 1 9 2 (psgn T n 44 (pfgm T n 0 3 1 (pmust T n (pisX T n 114 0) ((0, 0, nI 0, 0, fun _ => 0) : pS)))))) := hO_103
        have ho__103 := hO_103
        obtain ⟨ho1_103, _, _, ho4_103, ho16_103, hoF_103⟩ := ho__103
        have he13_103 := tkE_le (T := T) ho1_103
        have hk15_103 := tkK_le T n (psgn T n 59 (pfgm T n 1 9 2 (psgn T n 44 (pfgm T n 0 3 1 (pmust T n (pisX T n 114 0) ((0, 0, nI 0, 0, fun _ => 0) : pS)))))).1
        obtain ⟨hq13_103, hq14_103, hq15_103, hq16_103, hq17_103, hq18_103, hq20_103, hq5_103, hq12_103, hq11_103⟩ := hPF_103
        have hfr_103 : ∀ k, (k < 13 ∨ 20 < k ∨ k = 19) → fi_103 k = fi k := fun k hk => (hfr_103 k hk).trans (hfr_96 k hk)
        have hcr_103 : ∀ k, k ≠ 5 → cn_103 k = cn k := fun k hk => (hcr_103 k hk).trans ((va_up_ne _ _ hk).trans (hcr_96 k hk))
        have hP : va_P g.1 zCL (mW g ad fi_103 cn_103 xl) _ := hP
        have hD : va_D (mA ad s.heap.size) (mW g ad fi_103 cn_103 xl) := hD
        have hPF_R103 : PF T n (pbk0 T n) fi_103 cn_103 := ⟨hq13_103, hq14_103, hq15_103, hq16_103, hq17_103, hq18_103, hq20_103, hq5_103, hq12_103, hq11_103⟩
        have hO_R103 : PO T n (pbk0 T n) := hO_103
        have ho__R103 := hO_R103
        obtain ⟨ho1_R103, _, _, ho4_R103, ho16_R103, hoF_R103⟩ := ho__R103
        have he13_R103 := tkE_le (T := T) ho1_R103
        have hk15_R103 := tkK_le T n (pbk0 T n).1
        obtain ⟨hq13_R103, hq14_R103, hq15_R103, hq16_R103, hq17_R103, hq18_R103, hq20_R103, hq5_R103, hq12_R103, hq11_R103⟩ := hPF_R103
        have hfr_R103 := hfr_103
        have hcr_R103 := hcr_103
        refine lv_iconst (v := nI 0) hx hb dX3_book_103 (by decide) ?_
        refine lv_istore_n (lv' := [(1, .int (nI 0)), (0, .ref (ad 0))]) hx hb dX3_book_104 rfl hl (by decide) rfl (fun ls hl => ?_)
        refine zloopW (head := 105) 5 (fun k H locs cells slots ls => ∃ (b0 : pS) (fi_L105 : Nat → Int32) (cn_L105 : Nat → Nat → Int32), cells = 0 ∧ slots = 0 ∧ va_P g.1 zCL (mW g ad fi_L105 cn_L105 xl) H ∧ va_D (mA ad s.heap.size) (mW g ad fi_L105 cn_L105 xl) ∧ va_S (mA ad s.heap.size) s.heap H locs ∧ lv_has ls 2 [(0, .ref (ad 0)), (1, .int (nI k))] ∧ PF T n b0 fi_L105 cn_L105 ∧ PO T n b0 ∧ pbk1 T n = prem T n k b0 ∧ (∀ k, (k < 13 ∨ 20 < k ∨ k = 19) → fi_L105 k = fi k) ∧ (∀ k, k ≠ 5 → cn_L105 k = cn k)) (fun k hv_k ih_105 H locs cells slots ls hI => ?_) 0 (Nat.zero_le _) ?_
        · obtain ⟨b0, fi_L105, cn_L105, rfl, rfl, hP, hD, hS, hl, hPF_L105, hO_L105, hrem, hfr_L105, hcr_L105⟩ := hI
          obtain ⟨hq13_L105, hq14_L105, hq15_L105, hq16_L105, hq17_L105, hq18_L105, hq20_L105, hq5_L105, hq12_L105, hq11_L105⟩ := hPF_L105
          have ho__L105 := hO_L105
          obtain ⟨ho1_L105, _, _, ho4_L105, ho16_L105, hoF_L105⟩ := ho__L105
          have he13_L105 := tkE_le (T := T) ho1_L105
          have hk15_L105 := tkK_le T n b0.1
          have hP : va_P g.1 zCL (mW g ad fi_L105 cn_L105 xl) _ := hP
          have hD : va_D (mA ad s.heap.size) (mW g ad fi_L105 cn_L105 xl) := hD
          refine lv_iload_n hx hb dX3_book_105 rfl (lv_at hl 1 rfl) ?_
          refine lv_iconst (v := nI 4) hx hb dX3_book_106 (by decide) ?_
          refine zc_gt (tgt := 148) hx hb (by omega) (by omega) dX3_book_107 (by decide) (fun c_107 => ?_) (fun c_107 => ?_)
          · have hb1 : pbk1 T n = b0 := hrem.trans (prem_5 (by omega))
            subst hb1
            refine lv_aload_n hx hb dX3_book_148 rfl (lv_at hl 0 rfl) ?_
            refine zjoin (ls := ls) (α := Int32) (fun v9 => v9 = zB (pisX T n 120 (pbk1 T n).1)) (fun v9 => .int v9 :: [.ref (ad 0)]) 171 (fun v9 hv => ?_) (fun jn_149 => ?_)
            · subst hv
              have hle_171 := hS.1
              refine va_callv (va_runV (As := [.int (zB (pisX T n 120 (pbk1 T n).1))]) (rest := []) ⟨hx, hb, hml, hown, hts⟩ (m_X3_must l g ad fi_L105 cn_L105 xl _ T n (pbk1 T n) (show PF T n (pbk1 T n) fi_L105 cn_L105 from ⟨hq13_L105, hq14_L105, hq15_L105, hq16_L105, hq17_L105, hq18_L105, hq20_L105, hq5_L105, hq12_L105, hq11_L105⟩) hO_L105 (pisX T n 120 (pbk1 T n).1)) (cwV 1 hts (lw_V q1438 q1440 qs33 q69 q1441) rfl rfl rfl hdV_X3_must ⟨Nat.le_of_ble_eq_true rfl, Nat.le_of_ble_eq_true rfl⟩) (zpreV hK hN (va_recv hK hP (ci := 3) (q0 := 0) rfl rfl) ⟨rfl, hP, hD.weaken (fun _ _ _ _ => trivial)⟩) rfl rfl hl.1 rfl (lv_room (Nat.le_of_ble_eq_true rfl)) dX3_book_171 ⟨Nat.le_of_ble_eq_true rfl, Nat.le_of_ble_eq_true rfl⟩) hS (fun q _ h => mA_le hS.1 q h) (mA_le hS.1) (fun u t H locs ht hvm hw_171 hB hzz hkk hS => ?_)
              obtain ⟨hP, hD⟩ := hB
              rw [ht] at hP
              have hD := hD.weaken (fun _ _ _ h => mA_le hle_171 _ h)
              obtain ⟨fi_174, cn_174, xl_174⟩ := u
              obtain ⟨_, hPF_174, hO_174, hxl_174, hfr_174, hcr_174⟩ := hw_171
              have hxl_174 : xl = xl_174 := hxl_174.symm
              subst hxl_174
              have hPF_174 : PF T n (pmust T n (pisX T n 120 (pbk1 T n).1) (pbk1 T n)) fi_174 cn_174 := hPF_174
              have hO_174 : PO T n (pmust T n (pisX T n 120 (pbk1 T n).1) (pbk1 T n)) := hO_174
              have ho__174 := hO_174
              obtain ⟨ho1_174, _, _, ho4_174, ho16_174, hoF_174⟩ := ho__174
              have he13_174 := tkE_le (T := T) ho1_174
              have hk15_174 := tkK_le T n (pmust T n (pisX T n 120 (pbk1 T n).1) (pbk1 T n)).1
              obtain ⟨hq13_174, hq14_174, hq15_174, hq16_174, hq17_174, hq18_174, hq20_174, hq5_174, hq12_174, hq11_174⟩ := hPF_174
              have hfr_174 : ∀ k, (k < 13 ∨ 20 < k ∨ k = 19) → fi_174 k = fi k := fun k hk => (hfr_174 k hk).trans (hfr_L105 k hk)
              have hcr_174 : ∀ k, k ≠ 5 → cn_174 k = cn k := fun k hk => (hcr_174 k hk).trans (hcr_L105 k hk)
              have hP : va_P g.1 zCL (mW g ad fi_174 cn_174 xl) _ := hP
              have hD : va_D (mA ad s.heap.size) (mW g ad fi_174 cn_174 xl) := hD
              refine lv_aload_n hx hb dX3_book_174 rfl (lv_at hl 0 rfl) ?_
              refine va_get (D := g.1) (ci := 3) (v := .ref (ad 5)) (C := RX3) (T := TX3) (N := 30) hx hb hts in_X3 hown hK hP 0 rfl rfl 5 (by decide) (hts _ q1302) (fun _ h9 => h9) rfl dX3_book_175 ?_
              refine lv_iconst (v := nI 3) hx hb dX3_book_178 (by decide) ?_
              refine lv_aload_n hx hb dX3_book_179 rfl (lv_at hl 0 rfl) ?_
              refine lv_iconst (v := nI 4) hx hb dX3_book_180 (by decide) ?_
              refine lv_bipush (v := nI 8) hx hb dX3_book_181 (by decide) ?_
              have hle_183 := hS.1
              refine va_calli (va_runV (As := [.int (nI 4), .int (nI 8)]) (rest := [.int (nI 3), .ref (ad 5)]) ⟨hx, hb, hml, hown, hts⟩ (m_X3_readWord l g ad fi_174 cn_174 xl _ T n (pmust T n (pisX T n 120 (pbk1 T n).1) (pbk1 T n)) (show PF T n (pmust T n (pisX T n 120 (pbk1 T n).1) (pbk1 T n)) fi_174 cn_174 from ⟨hq13_174, hq14_174, hq15_174, hq16_174, hq17_174, hq18_174, hq20_174, hq5_174, hq12_174, hq11_174⟩) hO_174 4 8 (by omega) (by omega)) (cwV 2 hts (lw_V q1461 q1463 qs38 q69 q1464) rfl rfl rfl hdV_X3_readWord ⟨Nat.le_of_ble_eq_true rfl, Nat.le_of_ble_eq_true rfl⟩) (zpreV hK hN (va_recv hK hP (ci := 3) (q0 := 0) rfl rfl) ⟨rfl, hP, hD.weaken (fun _ _ _ _ => trivial)⟩) rfl rfl hl.1 rfl (lv_room (Nat.le_of_ble_eq_true rfl)) dX3_book_183 ⟨Nat.le_of_ble_eq_true rfl, Nat.le_of_ble_eq_true rfl⟩) hS (fun q _ h => mA_le hS.1 q h) (mA_le hS.1) (fun r_183 u t H locs ht hvm hw_183 hB hzz hkk hS => ?_)
              obtain ⟨hP, hD⟩ := hB
              rw [ht] at hP
              have hD := hD.weaken (fun _ _ _ h => mA_le hle_183 _ h)
              obtain ⟨fi_186, cn_186, xl_186⟩ := u
              obtain ⟨rfl, hPF_186, hO_186, hxl_186, hfr_186, hcr_186⟩ := hw_183
              have hxl_186 : xl = xl_186 := hxl_186.symm
              subst hxl_186
              have hPF_186 : PF T n (pwds T n 4 8 (pmust T n (pisX T n 120 (pbk1 T n).1) (pbk1 T n))) fi_186 cn_186 := hPF_186
              have hO_186 : PO T n (pwds T n 4 8 (pmust T n (pisX T n 120 (pbk1 T n).1) (pbk1 T n))) := hO_186
              have ho__186 := hO_186
              obtain ⟨ho1_186, _, _, ho4_186, ho16_186, hoF_186⟩ := ho__186
              have he13_186 := tkE_le (T := T) ho1_186
              have hk15_186 := tkK_le T n (pwds T n 4 8 (pmust T n (pisX T n 120 (pbk1 T n).1) (pbk1 T n))).1
              obtain ⟨hq13_186, hq14_186, hq15_186, hq16_186, hq17_186, hq18_186, hq20_186, hq5_186, hq12_186, hq11_186⟩ := hPF_186
              have hfr_186 : ∀ k, (k < 13 ∨ 20 < k ∨ k = 19) → fi_186 k = fi k := fun k hk => (hfr_186 k hk).trans (hfr_174 k hk)
              have hcr_186 : ∀ k, k ≠ 5 → cn_186 k = cn k := fun k hk => (hcr_186 k hk).trans (hcr_174 k hk)
              have hP : va_P g.1 zCL (mW g ad fi_186 cn_186 xl) _ := hP
              have hD : va_D (mA ad s.heap.size) (mW g ad fi_186 cn_186 xl) := hD
              refine zast (f := cn_186 5) hx hb hK hP hD hS 5 0 rfl rfl (j := 3) (by omega) (by decide) dX3_book_186 (fun H locs hP hD hS => ?_)
              rw [hq5_186] at hP hD
              rw [nF_up] at hP hD
              have hP : va_P g.1 zCL (mW g ad fi_186 (va_up cn_186 5 (nF (va_up ((pwds T n 4 8 (pmust T n (pisX T n 120 (pbk1 T n).1) (pbk1 T n))).2.2.2.2) 3 (pwdn T n 8 (pmust T n (pisX T n 120 (pbk1 T n).1) (pbk1 T n)))))) xl) _ := hP
              have hD : va_D (mA ad s.heap.size) (mW g ad fi_186 (va_up cn_186 5 (nF (va_up ((pwds T n 4 8 (pmust T n (pisX T n 120 (pbk1 T n).1) (pbk1 T n))).2.2.2.2) 3 (pwdn T n 8 (pmust T n (pisX T n 120 (pbk1 T n).1) (pbk1 T n)))))) xl) := hD
              have hO_k187 : PO T n (pwdm T n 4 8 3 (pmust T n (pisX T n 120 (pbk1 T n).1) (pbk1 T n))) := hO_186.set (Or.inl (by decide))
              refine lv_aload_n hx hb dX3_book_187 rfl (lv_at hl 0 rfl) ?_
              refine lv_bipush (v := nI 59) hx hb dX3_book_188 (by decide) ?_
              have hle_190 := hS.1
              refine va_callv (va_runV (As := [.int (nI 59)]) (rest := []) ⟨hx, hb, hml, hown, hts⟩ (m_X3_mustSign l g ad fi_186 (va_up cn_186 5 (nF (va_up ((pwds T n 4 8 (pmust T n (pisX T n 120 (pbk1 T n).1) (pbk1 T n))).2.2.2.2) 3 (pwdn T n 8 (pmust T n (pisX T n 120 (pbk1 T n).1) (pbk1 T n)))))) xl _ T n (pwdm T n 4 8 3 (pmust T n (pisX T n 120 (pbk1 T n).1) (pbk1 T n))) (show PF T n (pwdm T n 4 8 3 (pmust T n (pisX T n 120 (pbk1 T n).1) (pbk1 T n))) fi_186 (va_up cn_186 5 (nF (va_up ((pwds T n 4 8 (pmust T n (pisX T n 120 (pbk1 T n).1) (pbk1 T n))).2.2.2.2) 3 (pwdn T n 8 (pmust T n (pisX T n 120 (pbk1 T n).1) (pbk1 T n)))))) from ⟨hq13_186, hq14_186, hq15_186, hq16_186, hq17_186, hq18_186, hq20_186, rfl, hq12_186, hq11_186⟩) hO_k187 59 (by decide)) (cwV 1 hts (lw_V q1450 q1452 qs36 q69 q1453) rfl rfl rfl hdV_X3_mustSign ⟨Nat.le_of_ble_eq_true rfl, Nat.le_of_ble_eq_true rfl⟩) (zpreV hK hN (va_recv hK hP (ci := 3) (q0 := 0) rfl rfl) ⟨rfl, hP, hD.weaken (fun _ _ _ _ => trivial)⟩) rfl rfl hl.1 rfl (lv_room (Nat.le_of_ble_eq_true rfl)) dX3_book_190 ⟨Nat.le_of_ble_eq_true rfl, Nat.le_of_ble_eq_true rfl⟩) hS (fun q _ h => mA_le hS.1 q h) (mA_le hS.1) (fun u t H locs ht hvm hw_190 hB hzz hkk hS => ?_)
              obtain ⟨hP, hD⟩ := hB
              rw [ht] at hP
              have hD := hD.weaken (fun _ _ _ h => mA_le hle_190 _ h)
              obtain ⟨fi_193, cn_193, xl_193⟩ := u
              obtain ⟨_, hPF_193, hO_193, hxl_193, hfr_193, hcr_193⟩ := hw_190
              have hxl_193 : xl = xl_193 := hxl_193.symm
              subst hxl_193
              have hPF_193 : PF T n (psgn T n 59 (pwdm T n 4 8 3 (pmust T n (pisX T n 120 (pbk1 T n).1) (pbk1 T n)))) fi_193 cn_193 := hPF_193
              have hO_193 : PO T n (psgn T n 59 (pwdm T n 4 8 3 (pmust T n (pisX T n 120 (pbk1 T n).1) (pbk1 T n)))) := hO_193
              have ho__193 := hO_193
              obtain ⟨ho1_193, _, _, ho4_193, ho16_193, hoF_193⟩ := ho__193
              have he13_193 := tkE_le (T := T) ho1_193
              have hk15_193 := tkK_le T n (psgn T n 59 (pwdm T n 4 8 3 (pmust T n (pisX T n 120 (pbk1 T n).1) (pbk1 T n)))).1
              obtain ⟨hq13_193, hq14_193, hq15_193, hq16_193, hq17_193, hq18_193, hq20_193, hq5_193, hq12_193, hq11_193⟩ := hPF_193
              have hfr_193 : ∀ k, (k < 13 ∨ 20 < k ∨ k = 19) → fi_193 k = fi k := fun k hk => (hfr_193 k hk).trans (hfr_186 k hk)
              have hcr_193 : ∀ k, k ≠ 5 → cn_193 k = cn k := fun k hk => (hcr_193 k hk).trans ((va_up_ne _ _ hk).trans (hcr_186 k hk))
              have hP : va_P g.1 zCL (mW g ad fi_193 cn_193 xl) _ := hP
              have hD : va_D (mA ad s.heap.size) (mW g ad fi_193 cn_193 xl) := hD
              have hPF_R193 : PF T n (pbk2 T n) fi_193 cn_193 := ⟨hq13_193, hq14_193, hq15_193, hq16_193, hq17_193, hq18_193, hq20_193, hq5_193, hq12_193, hq11_193⟩
              have hO_R193 : PO T n (pbk2 T n) := hO_193
              have ho__R193 := hO_R193
              obtain ⟨ho1_R193, _, _, ho4_R193, ho16_R193, hoF_R193⟩ := ho__R193
              have he13_R193 := tkE_le (T := T) ho1_R193
              have hk15_R193 := tkK_le T n (pbk2 T n).1
              obtain ⟨hq13_R193, hq14_R193, hq15_R193, hq16_R193, hq17_R193, hq18_R193, hq20_R193, hq5_R193, hq12_R193, hq11_R193⟩ := hPF_R193
              have hfr_R193 := hfr_193
              have hcr_R193 := hcr_193
              refine lv_aload_n hx hb dX3_book_193 rfl (lv_at hl 0 rfl) ?_
              refine va_get (D := g.1) (ci := 3) (v := .int (fi_193 17)) (C := RX3) (T := TX3) (N := 30) hx hb hts in_X3 hown hK hP 0 rfl rfl 17 (by decide) (hts _ q1314) (fun _ h9 => h9) rfl dX3_book_194 ?_
              refine zti (hq17_R193) ?_
              refine zi_ne (tgt := 213) hx hb (by omega) dX3_book_197 (by decide) (fun c_197 => ?_) (fun c_197 => ?_)
              · have hPF_R213 : PF T n (pbk3 T n) fi_193 cn_193 := (by rw [show pbk3 T n = pbk2 T n from zif_same (pbad_id c_197)]; exact ⟨hq13_R193, hq14_R193, hq15_R193, hq16_R193, hq17_R193, hq18_R193, hq20_R193, hq5_R193, hq12_R193, hq11_R193⟩)
                have hO_R213 : PO T n (pbk3 T n) := (by rw [show pbk3 T n = pbk2 T n from zif_same (pbad_id c_197)]; exact hO_R193)
                have ho__R213 := hO_R213
                obtain ⟨ho1_R213, _, _, ho4_R213, ho16_R213, hoF_R213⟩ := ho__R213
                have he13_R213 := tkE_le (T := T) ho1_R213
                have hk15_R213 := tkK_le T n (pbk3 T n).1
                obtain ⟨hq13_R213, hq14_R213, hq15_R213, hq16_R213, hq17_R213, hq18_R213, hq20_R213, hq5_R213, hq12_R213, hq11_R213⟩ := hPF_R213
                have hfr_R213 := hfr_R193
                have hcr_R213 := hcr_R193
                refine lv_aload_n hx hb dX3_book_213 rfl (lv_at hl 0 rfl) ?_
                refine va_get (D := g.1) (ci := 3) (v := .int (fi_193 17)) (C := RX3) (T := TX3) (N := 30) hx hb hts in_X3 hown hK hP 0 rfl rfl 17 (by decide) (hts _ q1314) (fun _ h9 => h9) rfl dX3_book_214 ?_
                refine zti (hq17_R213) ?_
                refine zi_ne (tgt := 239) hx hb (by omega) dX3_book_217 (by decide) (fun c_217 => ?_) (fun c_217 => ?_)
                · have hPF_R239 : PF T n (pbk T n) fi_193 cn_193 := (by rw [show pbk T n = pbk3 T n from zif_same (pbad_id c_217)]; exact ⟨hq13_R213, hq14_R213, hq15_R213, hq16_R213, hq17_R213, hq18_R213, hq20_R213, hq5_R213, hq12_R213, hq11_R213⟩)
                  have hO_R239 : PO T n (pbk T n) := (by rw [show pbk T n = pbk3 T n from zif_same (pbad_id c_217)]; exact hO_R213)
                  have ho__R239 := hO_R239
                  obtain ⟨ho1_R239, _, _, ho4_R239, ho16_R239, hoF_R239⟩ := ho__R239
                  have he13_R239 := tkE_le (T := T) ho1_R239
                  have hk15_R239 := tkK_le T n (pbk T n).1
                  obtain ⟨hq13_R239, hq14_R239, hq15_R239, hq16_R239, hq17_R239, hq18_R239, hq20_R239, hq5_R239, hq12_R239, hq11_R239⟩ := hPF_R239
                  have hfr_R239 := hfr_R213
                  have hcr_R239 := hcr_R213
                  refine lv_aload_n hx hb dX3_book_239 rfl (lv_at hl 0 rfl) ?_
                  refine lv_iconst (v := nI 0) hx hb dX3_book_240 (by decide) ?_
                  refine va_put (D := g.1) (ci := 3) (v := .int (nI 0)) (ty := .int) (C := RX3) (T := TX3) (N := 30) hx hb hts in_X3 tyX3 tyX3_ok nmX3 hown hK hP hD hS 0 rfl rfl 12 (by decide) (hts _ q1309) (fun _ h9 => h9) rfl (by decide +kernel) rfl rfl (Nat.le_of_ble_eq_true rfl) dX3_book_241 (fun H locs hP hD hS => ?_)
                  have hP : va_P g.1 zCL (mW g ad (va_up fi_193 12 (nI 0)) cn_193 xl) _ := hP
                  have hD : va_D (mA ad s.heap.size) (mW g ad (va_up fi_193 12 (nI 0)) cn_193 xl) := hD
                  refine lv_aload_n hx hb dX3_book_244 rfl (lv_at hl 0 rfl) ?_
                  refine va_get (D := g.1) (ci := 3) (v := .int (fi_193 17)) (C := RX3) (T := TX3) (N := 30) hx hb hts in_X3 hown hK hP 0 rfl rfl 17 (by decide) (hts _ q1314) (fun _ h9 => h9) rfl dX3_book_245 ?_
                  refine zti (hq17_R239) ?_
                  refine zi_le (tgt := 267) hx hb (by omega) dX3_book_248 (by decide) (fun c_248 => ?_) (fun c_248 => ?_)
                  · refine lv_aload_n hx hb dX3_book_267 rfl (lv_at hl 0 rfl) ?_
                    refine lv_iconst (v := nI 0) hx hb dX3_book_268 (by decide) ?_
                    refine va_put (D := g.1) (ci := 3) (v := .int (nI 0)) (ty := .int) (C := RX3) (T := TX3) (N := 30) hx hb hts in_X3 tyX3 tyX3_ok nmX3 hown hK hP hD hS 0 rfl rfl 8 (by decide) (hts _ q1305) (fun _ h9 => h9) rfl (by decide +kernel) rfl rfl (Nat.le_of_ble_eq_true rfl) dX3_book_269 (fun H locs hP hD hS => ?_)
                    have hP : va_P g.1 zCL (mW g ad (va_up (va_up fi_193 8 (nI 0)) 12 (nI 0)) cn_193 xl) _ := hP
                    have hD : va_D (mA ad s.heap.size) (mW g ad (va_up (va_up fi_193 8 (nI 0)) 12 (nI 0)) cn_193 xl) := hD
                    refine lv_iconst (v := nI 0) hx hb dX3_book_272 (by decide) ?_
                    refine lv_istore_n (lv' := [(1, .int (nI 0)), (0, .ref (ad 0))]) hx hb dX3_book_273 rfl hl (by decide) rfl (fun ls hl => ?_)
                    refine zloopW (head := 274) (44) (fun k H locs cells slots ls => cells = 0 ∧ slots = 0 ∧ va_P g.1 zCL (mW g ad (va_up (va_up fi_193 8 (nI 0)) 12 (nI 0)) (va_up cn_193 4 (nF (va_cpy (pbk T n).2.2.2.2 (S.2.1 4) 0 0 k))) xl) H ∧ va_D (mA ad s.heap.size) (mW g ad (va_up (va_up fi_193 8 (nI 0)) 12 (nI 0)) (va_up cn_193 4 (nF (va_cpy (pbk T n).2.2.2.2 (S.2.1 4) 0 0 k))) xl) ∧ va_S (mA ad s.heap.size) s.heap H locs ∧ lv_has ls 2 [(0, .ref (ad 0)), (1, .int (nI k))]) (fun k hv_k ih_274 H locs cells slots ls hI => ?_) 0 (Nat.zero_le _) ?_
                    · obtain ⟨rfl, rfl, hP, hD, hS, hl⟩ := hI
                      refine lv_iload_n hx hb dX3_book_274 rfl (lv_at hl 1 rfl) ?_
                      refine lv_bipush (v := nI 44) hx hb dX3_book_275 (by decide) ?_
                      refine zc_ge (tgt := 298) hx hb (by omega) (by omega) dX3_book_277 (by decide) (fun c_277 => ?_) (fun c_277 => ?_)
                      · obtain rfl : 44 = k := by omega
                        obtain ⟨hP, hD⟩ := hP.exi hD 4 (f' := nF (pbk T n).2.2.2.2) rfl (fun j hj => by show nI (va_cpy _ _ 0 0 44 j) = nI ((pbk T n).2.2.2.2 j); rw [zcpy_in (by omega) (by omega)]; rw [Nat.zero_add, Nat.sub_zero])
                        have hP : va_P g.1 zCL (mW g ad (va_up (va_up fi_193 8 (nI 0)) 12 (nI 0)) (va_up cn_193 4 (nF (pbk T n).2.2.2.2)) xl) _ := hP
                        have hD : va_D (mA ad s.heap.size) (mW g ad (va_up (va_up fi_193 8 (nI 0)) 12 (nI 0)) (va_up cn_193 4 (nF (pbk T n).2.2.2.2)) xl) := hD
                        refine lv_aload_n hx hb dX3_book_298 rfl (lv_at hl 0 rfl) ?_
                        refine va_get (D := g.1) (ci := 3) (v := .ref (ad 4)) (C := RX3) (T := TX3) (N := 30) hx hb hts in_X3 hown hK hP 0 rfl rfl 4 (by decide) (hts _ q1301) (fun _ h9 => h9) rfl dX3_book_299 ?_
                        refine lv_iconst (v := nI 0) hx hb dX3_book_302 (by decide) ?_
                        refine zald hx hb hK hP 4 0 rfl rfl (j := 0) (by omega) (by decide) dX3_book_303 ?_
                        refine zti (show (nF ((pbk T n).2.2.2.2)) 0 = nI (((pbk T n).2.2.2.2) 0) from rfl) ?_
                        exact W.iret (v := nI (((pbk T n).2.2.2.2) 0)) hx hb hr (fun t ht hW => ⟨⟨nI (((pbk T n).2.2.2.2) 0), (va_up (va_up fi_193 8 (nI 0)) 12 (nI 0), va_up cn_193 4 (nF (pbk T n).2.2.2.2), xl), rfl, (by unfold opBook; rw [hT11, hn12, zif_f c_248]; exact ⟨rfl, ⟨((hfr_R239 0 (by decide)).trans hf0), rfl, rfl, ((hfr_R239 19 (by decide)).trans hf19), ((hfr_R239 29 (by decide)).trans hf29), ((hcr_R239 1 (by decide)).trans hc1), ((hcr_R239 2 (by decide)).trans hc2), ((hcr_R239 3 (by decide)).trans hc3), rfl, ((hcr_R239 7 (by decide)).trans hc7), ((hcr_R239 11 (by decide)).trans hc11), ((hcr_R239 26 (by decide)).trans hc26), ((hcr_R239 27 (by decide)).trans hc27), ((hcr_R239 28 (by decide)).trans hc28)⟩, ⟨_, _, _, _, _, _, _, _, _, hq5_R239, ((hcr_R239 6 (by decide)).trans hc6), ((hcr_R239 9 (by decide)).trans hc9), ((hcr_R239 10 (by decide)).trans hc10), ((hcr_R239 24 (by decide)).trans hc24), ((hcr_R239 25 (by decide)).trans hc25), hc21, hc22, ((hfr_R239 23 (by decide)).trans hf23)⟩⟩), by rw [ht]; exact hP, hD⟩, hS.F ht⟩) hS.2.2 dX3_book_304
                      · refine lv_aload_n hx hb dX3_book_280 rfl (lv_at hl 0 rfl) ?_
                        refine va_get (D := g.1) (ci := 3) (v := .ref (ad 4)) (C := RX3) (T := TX3) (N := 30) hx hb hts in_X3 hown hK hP 0 rfl rfl 4 (by decide) (hts _ q1301) (fun _ h9 => h9) rfl dX3_book_281 ?_
                        refine lv_iload_n hx hb dX3_book_284 rfl (lv_at hl 1 rfl) ?_
                        refine lv_aload_n hx hb dX3_book_285 rfl (lv_at hl 0 rfl) ?_
                        refine va_get (D := g.1) (ci := 3) (v := .ref (ad 5)) (C := RX3) (T := TX3) (N := 30) hx hb hts in_X3 hown hK hP 0 rfl rfl 5 (by decide) (hts _ q1302) (fun _ h9 => h9) rfl dX3_book_286 ?_
                        refine lv_iload_n hx hb dX3_book_289 rfl (lv_at hl 1 rfl) ?_
                        refine zald hx hb hK hP 5 0 rfl rfl (j := k) (by omega) (by decide) dX3_book_290 ?_
                        refine zti (congrFun hq5_R239 _) ?_
                        refine zti (show (nF ((pbk T n).2.2.2.2)) k = nI (((pbk T n).2.2.2.2) k) from rfl) ?_
                        refine zast (f := nF (va_cpy (pbk T n).2.2.2.2 (S.2.1 4) 0 0 k)) hx hb hK hP hD hS 4 0 rfl rfl (j := k) (by omega) (by decide) dX3_book_291 (fun H locs hP hD hS => ?_)
                        rw [nF_up] at hP hD
                        have hP : va_P g.1 zCL (mW g ad (va_up (va_up fi_193 8 (nI 0)) 12 (nI 0)) (va_up cn_193 4 (nF (va_up (va_cpy (pbk T n).2.2.2.2 (S.2.1 4) 0 0 k) k (((pbk T n).2.2.2.2) k)))) xl) _ := hP
                        have hD : va_D (mA ad s.heap.size) (mW g ad (va_up (va_up fi_193 8 (nI 0)) 12 (nI 0)) (va_up cn_193 4 (nF (va_up (va_cpy (pbk T n).2.2.2.2 (S.2.1 4) 0 0 k) k (((pbk T n).2.2.2.2) k)))) xl) := hD
                        refine lv_iinc (v := nI (k + 1)) (lv' := [(1, .int (nI (k + 1))), (0, .ref (ad 0))]) hx hb dX3_book_292 hl (k := 1) rfl (nI_add k 1) (by decide) rfl (fun ls hl => ?_)
                        refine lv_goto (tgt := 274) hx hb dX3_book_295 (by decide) ?_
                        rw [show va_up (va_cpy (pbk T n).2.2.2.2 (S.2.1 4) 0 0 k) k ((pbk T n).2.2.2.2 k) = va_cpy (pbk T n).2.2.2.2 (S.2.1 4) 0 0 (k + 1) by have h9 := zcpy_s (pbk T n).2.2.2.2 (S.2.1 4) 0 0 k; rw [Nat.zero_add] at h9; exact h9] at hP hD
                        exact ih_274 (by omega) _ _ _ _ _ ⟨rfl, rfl, hP, hD, hS, lv_sub hl [1, 0] rfl⟩
                    · rw [mW_up (cn := cn_193) (k := 4) (f := nF (va_cpy (pbk T n).2.2.2.2 (S.2.1 4) 0 0 0)) (by rw [zcpy_0]; exact (hcr_R239 4 (by decide)).trans hc4)] at hP
                      rw [mW_up (cn := cn_193) (k := 4) (f := nF (va_cpy (pbk T n).2.2.2.2 (S.2.1 4) 0 0 0)) (by rw [zcpy_0]; exact (hcr_R239 4 (by decide)).trans hc4)] at hD
                      have hP : va_P g.1 zCL (mW g ad (va_up (va_up fi_193 8 (nI 0)) 12 (nI 0)) (va_up cn_193 4 (nF (va_cpy (pbk T n).2.2.2.2 (S.2.1 4) 0 0 0))) xl) _ := hP
                      have hD : va_D (mA ad s.heap.size) (mW g ad (va_up (va_up fi_193 8 (nI 0)) 12 (nI 0)) (va_up cn_193 4 (nF (va_cpy (pbk T n).2.2.2.2 (S.2.1 4) 0 0 0))) xl) := hD
                      exact ⟨rfl, rfl, hP, hD, hS, lv_sub hl [1, 0] rfl⟩
                  · refine lv_aload_n hx hb dX3_book_251 rfl (lv_at hl 0 rfl) ?_
                    refine lv_aload_n hx hb dX3_book_252 rfl (lv_at hl 0 rfl) ?_
                    refine va_get (D := g.1) (ci := 3) (v := .int (fi_193 17)) (C := RX3) (T := TX3) (N := 30) hx hb hts in_X3 hown hK hP 0 rfl rfl 17 (by decide) (hts _ q1314) (fun _ h9 => h9) rfl dX3_book_253 ?_
                    refine zti (hq17_R239) ?_
                    refine va_put (D := g.1) (ci := 3) (v := .int (nI ((pbk T n).2.1))) (ty := .int) (C := RX3) (T := TX3) (N := 30) hx hb hts in_X3 tyX3 tyX3_ok nmX3 hown hK hP hD hS 0 rfl rfl 19 (by decide) (hts _ q1316) (fun _ h9 => h9) rfl (by decide +kernel) rfl rfl (Nat.le_of_ble_eq_true rfl) dX3_book_256 (fun H locs hP hD hS => ?_)
                    have hP : va_P g.1 zCL (mW g ad (va_up (va_up fi_193 12 (nI 0)) 19 (nI ((pbk T n).2.1))) cn_193 xl) _ := hP
                    have hD : va_D (mA ad s.heap.size) (mW g ad (va_up (va_up fi_193 12 (nI 0)) 19 (nI ((pbk T n).2.1))) cn_193 xl) := hD
                    refine lv_ldc hx hb hown (hts _ q1466) dX3_book_259 ?_
                    refine lv_aload_n hx hb dX3_book_261 rfl (lv_at hl 0 rfl) ?_
                    refine va_get (D := g.1) (ci := 3) (v := .int (fi_193 18)) (C := RX3) (T := TX3) (N := 30) hx hb hts in_X3 hown hK hP 0 rfl rfl 18 (by decide) (hts _ q1315) (fun _ h9 => h9) rfl dX3_book_262 ?_
                    refine lv_isub hx hb dX3_book_265 ?_
                    exact W.iret (v := (-1000100) - (fi_193 18)) hx hb hr (fun t ht hW => ⟨⟨(-1000100) - (fi_193 18), (va_up (va_up fi_193 12 (nI 0)) 19 (nI ((pbk T n).2.1)), cn_193, xl), rfl, (by unfold opBook; rw [hT11, hn12, zif_t c_248]; exact ⟨(congrArg (fun z => -1000100 - z) (hq18_R239 c_248)), ⟨((hfr_R239 0 (by decide)).trans hf0), ((hfr_R239 8 (by decide)).trans hf8), rfl, rfl, ((hfr_R239 29 (by decide)).trans hf29), ((hcr_R239 1 (by decide)).trans hc1), ((hcr_R239 2 (by decide)).trans hc2), ((hcr_R239 3 (by decide)).trans hc3), ((hcr_R239 4 (by decide)).trans hc4), ((hcr_R239 7 (by decide)).trans hc7), ((hcr_R239 11 (by decide)).trans hc11), ((hcr_R239 26 (by decide)).trans hc26), ((hcr_R239 27 (by decide)).trans hc27), ((hcr_R239 28 (by decide)).trans hc28)⟩, ⟨_, _, _, _, _, _, _, _, _, hq5_R239, ((hcr_R239 6 (by decide)).trans hc6), ((hcr_R239 9 (by decide)).trans hc9), ((hcr_R239 10 (by decide)).trans hc10), ((hcr_R239 24 (by decide)).trans hc24), ((hcr_R239 25 (by decide)).trans hc25), hc21, hc22, ((hfr_R239 23 (by decide)).trans hf23)⟩⟩), by rw [ht]; exact hP, hD⟩, hS.F ht⟩) hS.2.2 dX3_book_266
                · refine lv_aload_n hx hb dX3_book_220 rfl (lv_at hl 0 rfl) ?_
                  refine va_get (D := g.1) (ci := 3) (v := .int (fi_193 20)) (C := RX3) (T := TX3) (N := 30) hx hb hts in_X3 hown hK hP 0 rfl rfl 20 (by decide) (hts _ q1317) (fun _ h9 => h9) rfl dX3_book_221 ?_
                  refine zti (hq20_R213) ?_
                  refine lv_aload_n hx hb dX3_book_224 rfl (lv_at hl 0 rfl) ?_
                  refine va_get (D := g.1) (ci := 3) (v := .ref (ad 5)) (C := RX3) (T := TX3) (N := 30) hx hb hts in_X3 hown hK hP 0 rfl rfl 5 (by decide) (hts _ q1302) (fun _ h9 => h9) rfl dX3_book_225 ?_
                  refine lv_iconst (v := nI 0) hx hb dX3_book_228 (by decide) ?_
                  refine zald hx hb hK hP 5 0 rfl rfl (j := 0) (by omega) (by decide) dX3_book_229 ?_
                  refine zti (congrFun hq5_R213 _) ?_
                  refine zti (show (nF ((pbk3 T n).2.2.2.2)) 0 = nI (((pbk3 T n).2.2.2.2) 0) from rfl) ?_
                  refine lv_ishr hx hb dX3_book_230 ?_
                  refine zti (show _ = nI ((pbk3 T n).2.2.2.1 / 2 ^ (pbk3 T n).2.2.2.2 0) from (zshr (by omega) (by omega))) ?_
                  have hdl : (pbk3 T n).2.2.2.1 / 2 ^ (pbk3 T n).2.2.2.2 0 ≤ (pbk3 T n).2.2.2.1 := Nat.div_le_self _ _
                  refine zi_eq (tgt := 239) hx hb (by omega) dX3_book_231 (by decide) (fun c_231 => ?_) (fun c_231 => ?_)
                  · have hPF_R239 : PF T n (pbk T n) fi_193 cn_193 := (by rw [show pbk T n = pbk3 T n from zif_t c_231]; exact ⟨hq13_R213, hq14_R213, hq15_R213, hq16_R213, hq17_R213, hq18_R213, hq20_R213, hq5_R213, hq12_R213, hq11_R213⟩)
                    have hO_R239 : PO T n (pbk T n) := (by rw [show pbk T n = pbk3 T n from zif_t c_231]; exact hO_R213)
                    have ho__R239 := hO_R239
                    obtain ⟨ho1_R239, _, _, ho4_R239, ho16_R239, hoF_R239⟩ := ho__R239
                    have he13_R239 := tkE_le (T := T) ho1_R239
                    have hk15_R239 := tkK_le T n (pbk T n).1
                    obtain ⟨hq13_R239, hq14_R239, hq15_R239, hq16_R239, hq17_R239, hq18_R239, hq20_R239, hq5_R239, hq12_R239, hq11_R239⟩ := hPF_R239
                    have hfr_R239 := hfr_R213
                    have hcr_R239 := hcr_R213
                    refine lv_aload_n hx hb dX3_book_239 rfl (lv_at hl 0 rfl) ?_
                    refine lv_iconst (v := nI 0) hx hb dX3_book_240 (by decide) ?_
                    refine va_put (D := g.1) (ci := 3) (v := .int (nI 0)) (ty := .int) (C := RX3) (T := TX3) (N := 30) hx hb hts in_X3 tyX3 tyX3_ok nmX3 hown hK hP hD hS 0 rfl rfl 12 (by decide) (hts _ q1309) (fun _ h9 => h9) rfl (by decide +kernel) rfl rfl (Nat.le_of_ble_eq_true rfl) dX3_book_241 (fun H locs hP hD hS => ?_)
                    have hP : va_P g.1 zCL (mW g ad (va_up fi_193 12 (nI 0)) cn_193 xl) _ := hP
                    have hD : va_D (mA ad s.heap.size) (mW g ad (va_up fi_193 12 (nI 0)) cn_193 xl) := hD
                    refine lv_aload_n hx hb dX3_book_244 rfl (lv_at hl 0 rfl) ?_
                    refine va_get (D := g.1) (ci := 3) (v := .int (fi_193 17)) (C := RX3) (T := TX3) (N := 30) hx hb hts in_X3 hown hK hP 0 rfl rfl 17 (by decide) (hts _ q1314) (fun _ h9 => h9) rfl dX3_book_245 ?_
                    refine zti (hq17_R239) ?_
                    refine zi_le (tgt := 267) hx hb (by omega) dX3_book_248 (by decide) (fun c_248 => ?_) (fun c_248 => ?_)
                    · refine lv_aload_n hx hb dX3_book_267 rfl (lv_at hl 0 rfl) ?_
                      refine lv_iconst (v := nI 0) hx hb dX3_book_268 (by decide) ?_
                      refine va_put (D := g.1) (ci := 3) (v := .int (nI 0)) (ty := .int) (C := RX3) (T := TX3) (N := 30) hx hb hts in_X3 tyX3 tyX3_ok nmX3 hown hK hP hD hS 0 rfl rfl 8 (by decide) (hts _ q1305) (fun _ h9 => h9) rfl (by decide +kernel) rfl rfl (Nat.le_of_ble_eq_true rfl) dX3_book_269 (fun H locs hP hD hS => ?_)
                      have hP : va_P g.1 zCL (mW g ad (va_up (va_up fi_193 8 (nI 0)) 12 (nI 0)) cn_193 xl) _ := hP
                      have hD : va_D (mA ad s.heap.size) (mW g ad (va_up (va_up fi_193 8 (nI 0)) 12 (nI 0)) cn_193 xl) := hD
                      refine lv_iconst (v := nI 0) hx hb dX3_book_272 (by decide) ?_
                      refine lv_istore_n (lv' := [(1, .int (nI 0)), (0, .ref (ad 0))]) hx hb dX3_book_273 rfl hl (by decide) rfl (fun ls hl => ?_)
                      refine zloopW (head := 274) (44) (fun k H locs cells slots ls => cells = 0 ∧ slots = 0 ∧ va_P g.1 zCL (mW g ad (va_up (va_up fi_193 8 (nI 0)) 12 (nI 0)) (va_up cn_193 4 (nF (va_cpy (pbk T n).2.2.2.2 (S.2.1 4) 0 0 k))) xl) H ∧ va_D (mA ad s.heap.size) (mW g ad (va_up (va_up fi_193 8 (nI 0)) 12 (nI 0)) (va_up cn_193 4 (nF (va_cpy (pbk T n).2.2.2.2 (S.2.1 4) 0 0 k))) xl) ∧ va_S (mA ad s.heap.size) s.heap H locs ∧ lv_has ls 2 [(0, .ref (ad 0)), (1, .int (nI k))]) (fun k hv_k ih_274 H locs cells slots ls hI => ?_) 0 (Nat.zero_le _) ?_
                      · obtain ⟨rfl, rfl, hP, hD, hS, hl⟩ := hI
                        refine lv_iload_n hx hb dX3_book_274 rfl (lv_at hl 1 rfl) ?_
                        refine lv_bipush (v := nI 44) hx hb dX3_book_275 (by decide) ?_
                        refine zc_ge (tgt := 298) hx hb (by omega) (by omega) dX3_book_277 (by decide) (fun c_277 => ?_) (fun c_277 => ?_)
                        · obtain rfl : 44 = k := by omega
                          obtain ⟨hP, hD⟩ := hP.exi hD 4 (f' := nF (pbk T n).2.2.2.2) rfl (fun j hj => by show nI (va_cpy _ _ 0 0 44 j) = nI ((pbk T n).2.2.2.2 j); rw [zcpy_in (by omega) (by omega)]; rw [Nat.zero_add, Nat.sub_zero])
                          have hP : va_P g.1 zCL (mW g ad (va_up (va_up fi_193 8 (nI 0)) 12 (nI 0)) (va_up cn_193 4 (nF (pbk T n).2.2.2.2)) xl) _ := hP
                          have hD : va_D (mA ad s.heap.size) (mW g ad (va_up (va_up fi_193 8 (nI 0)) 12 (nI 0)) (va_up cn_193 4 (nF (pbk T n).2.2.2.2)) xl) := hD
                          refine lv_aload_n hx hb dX3_book_298 rfl (lv_at hl 0 rfl) ?_
                          refine va_get (D := g.1) (ci := 3) (v := .ref (ad 4)) (C := RX3) (T := TX3) (N := 30) hx hb hts in_X3 hown hK hP 0 rfl rfl 4 (by decide) (hts _ q1301) (fun _ h9 => h9) rfl dX3_book_299 ?_
                          refine lv_iconst (v := nI 0) hx hb dX3_book_302 (by decide) ?_
                          refine zald hx hb hK hP 4 0 rfl rfl (j := 0) (by omega) (by decide) dX3_book_303 ?_
                          refine zti (show (nF ((pbk T n).2.2.2.2)) 0 = nI (((pbk T n).2.2.2.2) 0) from rfl) ?_
                          exact W.iret (v := nI (((pbk T n).2.2.2.2) 0)) hx hb hr (fun t ht hW => ⟨⟨nI (((pbk T n).2.2.2.2) 0), (va_up (va_up fi_193 8 (nI 0)) 12 (nI 0), va_up cn_193 4 (nF (pbk T n).2.2.2.2), xl), rfl, (by unfold opBook; rw [hT11, hn12, zif_f c_248]; exact ⟨rfl, ⟨((hfr_R239 0 (by decide)).trans hf0), rfl, rfl, ((hfr_R239 19 (by decide)).trans hf19), ((hfr_R239 29 (by decide)).trans hf29), ((hcr_R239 1 (by decide)).trans hc1), ((hcr_R239 2 (by decide)).trans hc2), ((hcr_R239 3 (by decide)).trans hc3), rfl, ((hcr_R239 7 (by decide)).trans hc7), ((hcr_R239 11 (by decide)).trans hc11), ((hcr_R239 26 (by decide)).trans hc26), ((hcr_R239 27 (by decide)).trans hc27), ((hcr_R239 28 (by decide)).trans hc28)⟩, ⟨_, _, _, _, _, _, _, _, _, hq5_R239, ((hcr_R239 6 (by decide)).trans hc6), ((hcr_R239 9 (by decide)).trans hc9), ((hcr_R239 10 (by decide)).trans hc10), ((hcr_R239 24 (by decide)).trans hc24), ((hcr_R239 25 (by decide)).trans hc25), hc21, hc22, ((hfr_R239 23 (by decide)).trans hf23)⟩⟩), by rw [ht]; exact hP, hD⟩, hS.F ht⟩) hS.2.2 dX3_book_304
                        · refine lv_aload_n hx hb dX3_book_280 rfl (lv_at hl 0 rfl) ?_
                          refine va_get (D := g.1) (ci := 3) (v := .ref (ad 4)) (C := RX3) (T := TX3) (N := 30) hx hb hts in_X3 hown hK hP 0 rfl rfl 4 (by decide) (hts _ q1301) (fun _ h9 => h9) rfl dX3_book_281 ?_
                          refine lv_iload_n hx hb dX3_book_284 rfl (lv_at hl 1 rfl) ?_
                          refine lv_aload_n hx hb dX3_book_285 rfl (lv_at hl 0 rfl) ?_
                          refine va_get (D := g.1) (ci := 3) (v := .ref (ad 5)) (C := RX3) (T := TX3) (N := 30) hx hb hts in_X3 hown hK hP 0 rfl rfl 5 (by decide) (hts _ q1302) (fun _ h9 => h9) rfl dX3_book_286 ?_
                          refine lv_iload_n hx hb dX3_book_289 rfl (lv_at hl 1 rfl) ?_
                          refine zald hx hb hK hP 5 0 rfl rfl (j := k) (by omega) (by decide) dX3_book_290 ?_
                          refine zti (congrFun hq5_R239 _) ?_
                          refine zti (show (nF ((pbk T n).2.2.2.2)) k = nI (((pbk T n).2.2.2.2) k) from rfl) ?_
                          refine zast (f := nF (va_cpy (pbk T n).2.2.2.2 (S.2.1 4) 0 0 k)) hx hb hK hP hD hS 4 0 rfl rfl (j := k) (by omega) (by decide) dX3_book_291 (fun H locs hP hD hS => ?_)
                          rw [nF_up] at hP hD
                          have hP : va_P g.1 zCL (mW g ad (va_up (va_up fi_193 8 (nI 0)) 12 (nI 0)) (va_up cn_193 4 (nF (va_up (va_cpy (pbk T n).2.2.2.2 (S.2.1 4) 0 0 k) k (((pbk T n).2.2.2.2) k)))) xl) _ := hP
                          have hD : va_D (mA ad s.heap.size) (mW g ad (va_up (va_up fi_193 8 (nI 0)) 12 (nI 0)) (va_up cn_193 4 (nF (va_up (va_cpy (pbk T n).2.2.2.2 (S.2.1 4) 0 0 k) k (((pbk T n).2.2.2.2) k)))) xl) := hD
                          refine lv_iinc (v := nI (k + 1)) (lv' := [(1, .int (nI (k + 1))), (0, .ref (ad 0))]) hx hb dX3_book_292 hl (k := 1) rfl (nI_add k 1) (by decide) rfl (fun ls hl => ?_)
                          refine lv_goto (tgt := 274) hx hb dX3_book_295 (by decide) ?_
                          rw [show va_up (va_cpy (pbk T n).2.2.2.2 (S.2.1 4) 0 0 k) k ((pbk T n).2.2.2.2 k) = va_cpy (pbk T n).2.2.2.2 (S.2.1 4) 0 0 (k + 1) by have h9 := zcpy_s (pbk T n).2.2.2.2 (S.2.1 4) 0 0 k; rw [Nat.zero_add] at h9; exact h9] at hP hD
                          exact ih_274 (by omega) _ _ _ _ _ ⟨rfl, rfl, hP, hD, hS, lv_sub hl [1, 0] rfl⟩
                      · rw [mW_up (cn := cn_193) (k := 4) (f := nF (va_cpy (pbk T n).2.2.2.2 (S.2.1 4) 0 0 0)) (by rw [zcpy_0]; exact (hcr_R239 4 (by decide)).trans hc4)] at hP
                        rw [mW_up (cn := cn_193) (k := 4) (f := nF (va_cpy (pbk T n).2.2.2.2 (S.2.1 4) 0 0 0)) (by rw [zcpy_0]; exact (hcr_R239 4 (by decide)).trans hc4)] at hD
                        have hP : va_P g.1 zCL (mW g ad (va_up (va_up fi_193 8 (nI 0)) 12 (nI 0)) (va_up cn_193 4 (nF (va_cpy (pbk T n).2.2.2.2 (S.2.1 4) 0 0 0))) xl) _ := hP
                        have hD : va_D (mA ad s.heap.size) (mW g ad (va_up (va_up fi_193 8 (nI 0)) 12 (nI 0)) (va_up cn_193 4 (nF (va_cpy (pbk T n).2.2.2.2 (S.2.1 4) 0 0 0))) xl) := hD
                        exact ⟨rfl, rfl, hP, hD, hS, lv_sub hl [1, 0] rfl⟩
                    · refine lv_aload_n hx hb dX3_book_251 rfl (lv_at hl 0 rfl) ?_
                      refine lv_aload_n hx hb dX3_book_252 rfl (lv_at hl 0 rfl) ?_
                      refine va_get (D := g.1) (ci := 3) (v := .int (fi_193 17)) (C := RX3) (T := TX3) (N := 30) hx hb hts in_X3 hown hK hP 0 rfl rfl 17 (by decide) (hts _ q1314) (fun _ h9 => h9) rfl dX3_book_253 ?_
                      refine zti (hq17_R239) ?_
                      refine va_put (D := g.1) (ci := 3) (v := .int (nI ((pbk T n).2.1))) (ty := .int) (C := RX3) (T := TX3) (N := 30) hx hb hts in_X3 tyX3 tyX3_ok nmX3 hown hK hP hD hS 0 rfl rfl 19 (by decide) (hts _ q1316) (fun _ h9 => h9) rfl (by decide +kernel) rfl rfl (Nat.le_of_ble_eq_true rfl) dX3_book_256 (fun H locs hP hD hS => ?_)
                      have hP : va_P g.1 zCL (mW g ad (va_up (va_up fi_193 12 (nI 0)) 19 (nI ((pbk T n).2.1))) cn_193 xl) _ := hP
                      have hD : va_D (mA ad s.heap.size) (mW g ad (va_up (va_up fi_193 12 (nI 0)) 19 (nI ((pbk T n).2.1))) cn_193 xl) := hD
                      refine lv_ldc hx hb hown (hts _ q1466) dX3_book_259 ?_
                      refine lv_aload_n hx hb dX3_book_261 rfl (lv_at hl 0 rfl) ?_
                      refine va_get (D := g.1) (ci := 3) (v := .int (fi_193 18)) (C := RX3) (T := TX3) (N := 30) hx hb hts in_X3 hown hK hP 0 rfl rfl 18 (by decide) (hts _ q1315) (fun _ h9 => h9) rfl dX3_book_262 ?_
                      refine lv_isub hx hb dX3_book_265 ?_
                      exact W.iret (v := (-1000100) - (fi_193 18)) hx hb hr (fun t ht hW => ⟨⟨(-1000100) - (fi_193 18), (va_up (va_up fi_193 12 (nI 0)) 19 (nI ((pbk T n).2.1)), cn_193, xl), rfl, (by unfold opBook; rw [hT11, hn12, zif_t c_248]; exact ⟨(congrArg (fun z => -1000100 - z) (hq18_R239 c_248)), ⟨((hfr_R239 0 (by decide)).trans hf0), ((hfr_R239 8 (by decide)).trans hf8), rfl, rfl, ((hfr_R239 29 (by decide)).trans hf29), ((hcr_R239 1 (by decide)).trans hc1), ((hcr_R239 2 (by decide)).trans hc2), ((hcr_R239 3 (by decide)).trans hc3), ((hcr_R239 4 (by decide)).trans hc4), ((hcr_R239 7 (by decide)).trans hc7), ((hcr_R239 11 (by decide)).trans hc11), ((hcr_R239 26 (by decide)).trans hc26), ((hcr_R239 27 (by decide)).trans hc27), ((hcr_R239 28 (by decide)).trans hc28)⟩, ⟨_, _, _, _, _, _, _, _, _, hq5_R239, ((hcr_R239 6 (by decide)).trans hc6), ((hcr_R239 9 (by decide)).trans hc9), ((hcr_R239 10 (by decide)).trans hc10), ((hcr_R239 24 (by decide)).trans hc24), ((hcr_R239 25 (by decide)).trans hc25), hc21, hc22, ((hfr_R239 23 (by decide)).trans hf23)⟩⟩), by rw [ht]; exact hP, hD⟩, hS.F ht⟩) hS.2.2 dX3_book_266
                  · refine lv_aload_n hx hb dX3_book_234 rfl (lv_at hl 0 rfl) ?_
                    refine lv_iconst (v := nI 4) hx hb dX3_book_235 (by decide) ?_
                    have hle_236 := hS.1
                    refine va_callv (va_runV (As := [.int (nI 4)]) (rest := []) ⟨hx, hb, hml, hown, hts⟩ (m_X3_bad l g ad fi_193 cn_193 xl _ T n (pbk3 T n) (show PF T n (pbk3 T n) fi_193 cn_193 from ⟨hq13_R213, hq14_R213, hq15_R213, hq16_R213, hq17_R213, hq18_R213, hq20_R213, hq5_R213, hq12_R213, hq11_R213⟩) hO_R213 4 (by decide)) (cwV 1 hts (lw_V q1442 q1444 qs34 q69 q1445) rfl rfl rfl hdV_X3_bad ⟨Nat.le_of_ble_eq_true rfl, Nat.le_of_ble_eq_true rfl⟩) (zpreV hK hN (va_recv hK hP (ci := 3) (q0 := 0) rfl rfl) ⟨rfl, hP, hD.weaken (fun _ _ _ _ => trivial)⟩) rfl rfl hl.1 rfl (lv_room (Nat.le_of_ble_eq_true rfl)) dX3_book_236 ⟨Nat.le_of_ble_eq_true rfl, Nat.le_of_ble_eq_true rfl⟩) hS (fun q _ h => mA_le hS.1 q h) (mA_le hS.1) (fun u t H locs ht hvm hw_236 hB hzz hkk hS => ?_)
                    obtain ⟨hP, hD⟩ := hB
                    rw [ht] at hP
                    have hD := hD.weaken (fun _ _ _ h => mA_le hle_236 _ h)
                    obtain ⟨fi_239, cn_239, xl_239⟩ := u
                    obtain ⟨_, hPF_239, hO_239, hxl_239, hfr_239, hcr_239⟩ := hw_236
                    have hxl_239 : xl = xl_239 := hxl_239.symm
                    subst hxl_239
                    have hPF_239 : PF T n (pbad 4 (pbk3 T n)) fi_239 cn_239 := hPF_239
                    have hO_239 : PO T n (pbad 4 (pbk3 T n)) := hO_239
                    have ho__239 := hO_239
                    obtain ⟨ho1_239, _, _, ho4_239, ho16_239, hoF_239⟩ := ho__239
                    have he13_239 := tkE_le (T := T) ho1_239
                    have hk15_239 := tkK_le T n (pbad 4 (pbk3 T n)).1
                    obtain ⟨hq13_239, hq14_239, hq15_239, hq16_239, hq17_239, hq18_239, hq20_239, hq5_239, hq12_239, hq11_239⟩ := hPF_239
                    have hfr_239 : ∀ k, (k < 13 ∨ 20 < k ∨ k = 19) → fi_239 k = fi k := fun k hk => (hfr_239 k hk).trans (hfr_R213 k hk)
                    have hcr_239 : ∀ k, k ≠ 5 → cn_239 k = cn k := fun k hk => (hcr_239 k hk).trans (hcr_R213 k hk)
                    have hP : va_P g.1 zCL (mW g ad fi_239 cn_239 xl) _ := hP
                    have hD : va_D (mA ad s.heap.size) (mW g ad fi_239 cn_239 xl) := hD
                    have hPF_R239 : PF T n (pbk T n) fi_239 cn_239 := (by rw [show pbk T n = pbad 4 (pbk3 T n) from zif_f c_231]; exact ⟨hq13_239, hq14_239, hq15_239, hq16_239, hq17_239, hq18_239, hq20_239, hq5_239, hq12_239, hq11_239⟩)
                    have hO_R239 : PO T n (pbk T n) := (by rw [show pbk T n = pbad 4 (pbk3 T n) from zif_f c_231]; exact hO_239)
                    have ho__R239 := hO_R239
                    obtain ⟨ho1_R239, _, _, ho4_R239, ho16_R239, hoF_R239⟩ := ho__R239
                    have he13_R239 := tkE_le (T := T) ho1_R239
                    have hk15_R239 := tkK_le T n (pbk T n).1
                    obtain ⟨hq13_R239, hq14_R239, hq15_R239, hq16_R239, hq17_R239, hq18_R239, hq20_R239, hq5_R239, hq12_R239, hq11_R239⟩ := hPF_R239
                    have hfr_R239 := hfr_239
                    have hcr_R239 := hcr_239
                    refine lv_aload_n hx hb dX3_book_239 rfl (lv_at hl 0 rfl) ?_
                    refine lv_iconst (v := nI 0) hx hb dX3_book_240 (by decide) ?_
                    refine va_put (D := g.1) (ci := 3) (v := .int (nI 0)) (ty := .int) (C := RX3) (T := TX3) (N := 30) hx hb hts in_X3 tyX3 tyX3_ok nmX3 hown hK hP hD hS 0 rfl rfl 12 (by decide) (hts _ q1309) (fun _ h9 => h9) rfl (by decide +kernel) rfl rfl (Nat.le_of_ble_eq_true rfl) dX3_book_241 (fun H locs hP hD hS => ?_)
                    have hP : va_P g.1 zCL (mW g ad (va_up fi_239 12 (nI 0)) cn_239 xl) _ := hP
                    have hD : va_D (mA ad s.heap.size) (mW g ad (va_up fi_239 12 (nI 0)) cn_239 xl) := hD
                    refine lv_aload_n hx hb dX3_book_244 rfl (lv_at hl 0 rfl) ?_
                    refine va_get (D := g.1) (ci := 3) (v := .int (fi_239 17)) (C := RX3) (T := TX3) (N := 30) hx hb hts in_X3 hown hK hP 0 rfl rfl 17 (by decide) (hts _ q1314) (fun _ h9 => h9) rfl dX3_book_245 ?_
                    refine zti (hq17_R239) ?_
                    refine zi_le (tgt := 267) hx hb (by omega) dX3_book_248 (by decide) (fun c_248 => ?_) (fun c_248 => ?_)
                    · refine lv_aload_n hx hb dX3_book_267 rfl (lv_at hl 0 rfl) ?_
                      refine lv_iconst (v := nI 0) hx hb dX3_book_268 (by decide) ?_
                      refine va_put (D := g.1) (ci := 3) (v := .int (nI 0)) (ty := .int) (C := RX3) (T := TX3) (N := 30) hx hb hts in_X3 tyX3 tyX3_ok nmX3 hown hK hP hD hS 0 rfl rfl 8 (by decide) (hts _ q1305) (fun _ h9 => h9) rfl (by decide +kernel) rfl rfl (Nat.le_of_ble_eq_true rfl) dX3_book_269 (fun H locs hP hD hS => ?_)
                      have hP : va_P g.1 zCL (mW g ad (va_up (va_up fi_239 8 (nI 0)) 12 (nI 0)) cn_239 xl) _ := hP
                      have hD : va_D (mA ad s.heap.size) (mW g ad (va_up (va_up fi_239 8 (nI 0)) 12 (nI 0)) cn_239 xl) := hD
                      refine lv_iconst (v := nI 0) hx hb dX3_book_272 (by decide) ?_
                      refine lv_istore_n (lv' := [(1, .int (nI 0)), (0, .ref (ad 0))]) hx hb dX3_book_273 rfl hl (by decide) rfl (fun ls hl => ?_)
                      refine zloopW (head := 274) (44) (fun k H locs cells slots ls => cells = 0 ∧ slots = 0 ∧ va_P g.1 zCL (mW g ad (va_up (va_up fi_239 8 (nI 0)) 12 (nI 0)) (va_up cn_239 4 (nF (va_cpy (pbk T n).2.2.2.2 (S.2.1 4) 0 0 k))) xl) H ∧ va_D (mA ad s.heap.size) (mW g ad (va_up (va_up fi_239 8 (nI 0)) 12 (nI 0)) (va_up cn_239 4 (nF (va_cpy (pbk T n).2.2.2.2 (S.2.1 4) 0 0 k))) xl) ∧ va_S (mA ad s.heap.size) s.heap H locs ∧ lv_has ls 2 [(0, .ref (ad 0)), (1, .int (nI k))]) (fun k hv_k ih_274 H locs cells slots ls hI => ?_) 0 (Nat.zero_le _) ?_
                      · obtain ⟨rfl, rfl, hP, hD, hS, hl⟩ := hI
                        refine lv_iload_n hx hb dX3_book_274 rfl (lv_at hl 1 rfl) ?_
                        refine lv_bipush (v := nI 44) hx hb dX3_book_275 (by decide) ?_
                        refine zc_ge (tgt := 298) hx hb (by omega) (by omega) dX3_book_277 (by decide) (fun c_277 => ?_) (fun c_277 => ?_)
                        · obtain rfl : 44 = k := by omega
                          obtain ⟨hP, hD⟩ := hP.exi hD 4 (f' := nF (pbk T n).2.2.2.2) rfl (fun j hj => by show nI (va_cpy _ _ 0 0 44 j) = nI ((pbk T n).2.2.2.2 j); rw [zcpy_in (by omega) (by omega)]; rw [Nat.zero_add, Nat.sub_zero])
                          have hP : va_P g.1 zCL (mW g ad (va_up (va_up fi_239 8 (nI 0)) 12 (nI 0)) (va_up cn_239 4 (nF (pbk T n).2.2.2.2)) xl) _ := hP
                          have hD : va_D (mA ad s.heap.size) (mW g ad (va_up (va_up fi_239 8 (nI 0)) 12 (nI 0)) (va_up cn_239 4 (nF (pbk T n).2.2.2.2)) xl) := hD
                          refine lv_aload_n hx hb dX3_book_298 rfl (lv_at hl 0 rfl) ?_
                          refine va_get (D := g.1) (ci := 3) (v := .ref (ad 4)) (C := RX3) (T := TX3) (N := 30) hx hb hts in_X3 hown hK hP 0 rfl rfl 4 (by decide) (hts _ q1301) (fun _ h9 => h9) rfl dX3_book_299 ?_
                          refine lv_iconst (v := nI 0) hx hb dX3_book_302 (by decide) ?_
                          refine zald hx hb hK hP 4 0 rfl rfl (j := 0) (by omega) (by decide) dX3_book_303 ?_
                          refine zti (show (nF ((pbk T n).2.2.2.2)) 0 = nI (((pbk T n).2.2.2.2) 0) from rfl) ?_
                          exact W.iret (v := nI (((pbk T n).2.2.2.2) 0)) hx hb hr (fun t ht hW => ⟨⟨nI (((pbk T n).2.2.2.2) 0), (va_up (va_up fi_239 8 (nI 0)) 12 (nI 0), va_up cn_239 4 (nF (pbk T n).2.2.2.2), xl), rfl, (by unfold opBook; rw [hT11, hn12, zif_f c_248]; exact ⟨rfl, ⟨((hfr_R239 0 (by decide)).trans hf0), rfl, rfl, ((hfr_R239 19 (by decide)).trans hf19), ((hfr_R239 29 (by decide)).trans hf29), ((hcr_R239 1 (by decide)).trans hc1), ((hcr_R239 2 (by decide)).trans hc2), ((hcr_R239 3 (by decide)).trans hc3), rfl, ((hcr_R239 7 (by decide)).trans hc7), ((hcr_R239 11 (by decide)).trans hc11), ((hcr_R239 26 (by decide)).trans hc26), ((hcr_R239 27 (by decide)).trans hc27), ((hcr_R239 28 (by decide)).trans hc28)⟩, ⟨_, _, _, _, _, _, _, _, _, hq5_R239, ((hcr_R239 6 (by decide)).trans hc6), ((hcr_R239 9 (by decide)).trans hc9), ((hcr_R239 10 (by decide)).trans hc10), ((hcr_R239 24 (by decide)).trans hc24), ((hcr_R239 25 (by decide)).trans hc25), hc21, hc22, ((hfr_R239 23 (by decide)).trans hf23)⟩⟩), by rw [ht]; exact hP, hD⟩, hS.F ht⟩) hS.2.2 dX3_book_304
                        · refine lv_aload_n hx hb dX3_book_280 rfl (lv_at hl 0 rfl) ?_
                          refine va_get (D := g.1) (ci := 3) (v := .ref (ad 4)) (C := RX3) (T := TX3) (N := 30) hx hb hts in_X3 hown hK hP 0 rfl rfl 4 (by decide) (hts _ q1301) (fun _ h9 => h9) rfl dX3_book_281 ?_
                          refine lv_iload_n hx hb dX3_book_284 rfl (lv_at hl 1 rfl) ?_
                          refine lv_aload_n hx hb dX3_book_285 rfl (lv_at hl 0 rfl) ?_
                          refine va_get (D := g.1) (ci := 3) (v := .ref (ad 5)) (C := RX3) (T := TX3) (N := 30) hx hb hts in_X3 hown hK hP 0 rfl rfl 5 (by decide) (hts _ q1302) (fun _ h9 => h9) rfl dX3_book_286 ?_
                          refine lv_iload_n hx hb dX3_book_289 rfl (lv_at hl 1 rfl) ?_
                          refine zald hx hb hK hP 5 0 rfl rfl (j := k) (by omega) (by decide) dX3_book_290 ?_
                          refine zti (congrFun hq5_R239 _) ?_
                          refine zti (show (nF ((pbk T n).2.2.2.2)) k = nI (((pbk T n).2.2.2.2) k) from rfl) ?_
                          refine zast (f := nF (va_cpy (pbk T n).2.2.2.2 (S.2.1 4) 0 0 k)) hx hb hK hP hD hS 4 0 rfl rfl (j := k) (by omega) (by decide) dX3_book_291 (fun H locs hP hD hS => ?_)
                          rw [nF_up] at hP hD
                          have hP : va_P g.1 zCL (mW g ad (va_up (va_up fi_239 8 (nI 0)) 12 (nI 0)) (va_up cn_239 4 (nF (va_up (va_cpy (pbk T n).2.2.2.2 (S.2.1 4) 0 0 k) k (((pbk T n).2.2.2.2) k)))) xl) _ := hP
                          have hD : va_D (mA ad s.heap.size) (mW g ad (va_up (va_up fi_239 8 (nI 0)) 12 (nI 0)) (va_up cn_239 4 (nF (va_up (va_cpy (pbk T n).2.2.2.2 (S.2.1 4) 0 0 k) k (((pbk T n).2.2.2.2) k)))) xl) := hD
                          refine lv_iinc (v := nI (k + 1)) (lv' := [(1, .int (nI (k + 1))), (0, .ref (ad 0))]) hx hb dX3_book_292 hl (k := 1) rfl (nI_add k 1) (by decide) rfl (fun ls hl => ?_)
                          refine lv_goto (tgt := 274) hx hb dX3_book_295 (by decide) ?_
                          rw [show va_up (va_cpy (pbk T n).2.2.2.2 (S.2.1 4) 0 0 k) k ((pbk T n).2.2.2.2 k) = va_cpy (pbk T n).2.2.2.2 (S.2.1 4) 0 0 (k + 1) by have h9 := zcpy_s (pbk T n).2.2.2.2 (S.2.1 4) 0 0 k; rw [Nat.zero_add] at h9; exact h9] at hP hD
                          exact ih_274 (by omega) _ _ _ _ _ ⟨rfl, rfl, hP, hD, hS, lv_sub hl [1, 0] rfl⟩
                      · rw [mW_up (cn := cn_239) (k := 4) (f := nF (va_cpy (pbk T n).2.2.2.2 (S.2.1 4) 0 0 0)) (by rw [zcpy_0]; exact (hcr_R239 4 (by decide)).trans hc4)] at hP
                        rw [mW_up (cn := cn_239) (k := 4) (f := nF (va_cpy (pbk T n).2.2.2.2 (S.2.1 4) 0 0 0)) (by rw [zcpy_0]; exact (hcr_R239 4 (by decide)).trans hc4)] at hD
                        have hP : va_P g.1 zCL (mW g ad (va_up (va_up fi_239 8 (nI 0)) 12 (nI 0)) (va_up cn_239 4 (nF (va_cpy (pbk T n).2.2.2.2 (S.2.1 4) 0 0 0))) xl) _ := hP
                        have hD : va_D (mA ad s.heap.size) (mW g ad (va_up (va_up fi_239 8 (nI 0)) 12 (nI 0)) (va_up cn_239 4 (nF (va_cpy (pbk T n).2.2.2.2 (S.2.1 4) 0 0 0))) xl) := hD
                        exact ⟨rfl, rfl, hP, hD, hS, lv_sub hl [1, 0] rfl⟩
                    · refine lv_aload_n hx hb dX3_book_251 rfl (lv_at hl 0 rfl) ?_
                      refine lv_aload_n hx hb dX3_book_252 rfl (lv_at hl 0 rfl) ?_
                      refine va_get (D := g.1) (ci := 3) (v := .int (fi_239 17)) (C := RX3) (T := TX3) (N := 30) hx hb hts in_X3 hown hK hP 0 rfl rfl 17 (by decide) (hts _ q1314) (fun _ h9 => h9) rfl dX3_book_253 ?_
                      refine zti (hq17_R239) ?_
                      refine va_put (D := g.1) (ci := 3) (v := .int (nI ((pbk T n).2.1))) (ty := .int) (C := RX3) (T := TX3) (N := 30) hx hb hts in_X3 tyX3 tyX3_ok nmX3 hown hK hP hD hS 0 rfl rfl 19 (by decide) (hts _ q1316) (fun _ h9 => h9) rfl (by decide +kernel) rfl rfl (Nat.le_of_ble_eq_true rfl) dX3_book_256 (fun H locs hP hD hS => ?_)
                      have hP : va_P g.1 zCL (mW g ad (va_up (va_up fi_239 12 (nI 0)) 19 (nI ((pbk T n).2.1))) cn_239 xl) _ := hP
                      have hD : va_D (mA ad s.heap.size) (mW g ad (va_up (va_up fi_239 12 (nI 0)) 19 (nI ((pbk T n).2.1))) cn_239 xl) := hD
                      refine lv_ldc hx hb hown (hts _ q1466) dX3_book_259 ?_
                      refine lv_aload_n hx hb dX3_book_261 rfl (lv_at hl 0 rfl) ?_
                      refine va_get (D := g.1) (ci := 3) (v := .int (fi_239 18)) (C := RX3) (T := TX3) (N := 30) hx hb hts in_X3 hown hK hP 0 rfl rfl 18 (by decide) (hts _ q1315) (fun _ h9 => h9) rfl dX3_book_262 ?_
                      refine lv_isub hx hb dX3_book_265 ?_
                      exact W.iret (v := (-1000100) - (fi_239 18)) hx hb hr (fun t ht hW => ⟨⟨(-1000100) - (fi_239 18), (va_up (va_up fi_239 12 (nI 0)) 19 (nI ((pbk T n).2.1)), cn_239, xl), rfl, (by unfold opBook; rw [hT11, hn12, zif_t c_248]; exact ⟨(congrArg (fun z => -1000100 - z) (hq18_R239 c_248)), ⟨((hfr_R239 0 (by decide)).trans hf0), ((hfr_R239 8 (by decide)).trans hf8), rfl, rfl, ((hfr_R239 29 (by decide)).trans hf29), ((hcr_R239 1 (by decide)).trans hc1), ((hcr_R239 2 (by decide)).trans hc2), ((hcr_R239 3 (by decide)).trans hc3), ((hcr_R239 4 (by decide)).trans hc4), ((hcr_R239 7 (by decide)).trans hc7), ((hcr_R239 11 (by decide)).trans hc11), ((hcr_R239 26 (by decide)).trans hc26), ((hcr_R239 27 (by decide)).trans hc27), ((hcr_R239 28 (by decide)).trans hc28)⟩, ⟨_, _, _, _, _, _, _, _, _, hq5_R239, ((hcr_R239 6 (by decide)).trans hc6), ((hcr_R239 9 (by decide)).trans hc9), ((hcr_R239 10 (by decide)).trans hc10), ((hcr_R239 24 (by decide)).trans hc24), ((hcr_R239 25 (by decide)).trans hc25), hc21, hc22, ((hfr_R239 23 (by decide)).trans hf23)⟩⟩), by rw [ht]; exact hP, hD⟩, hS.F ht⟩) hS.2.2 dX3_book_266
              · refine lv_aload_n hx hb dX3_book_200 rfl (lv_at hl 0 rfl) ?_
                refine va_get (D := g.1) (ci := 3) (v := .int (fi_193 15)) (C := RX3) (T := TX3) (N := 30) hx hb hts in_X3 hown hK hP 0 rfl rfl 15 (by decide) (hts _ q1312) (fun _ h9 => h9) rfl dX3_book_201 ?_
                refine zti (hq15_R193) ?_
                refine lv_iconst (v := nI 1) hx hb dX3_book_204 (by decide) ?_
                refine zc_eq (tgt := 213) hx hb (by omega) (by omega) dX3_book_205 (by decide) (fun c_205 => ?_) (fun c_205 => ?_)
                · have hPF_R213 : PF T n (pbk3 T n) fi_193 cn_193 := (by rw [show pbk3 T n = pbk2 T n from zif_t c_205]; exact ⟨hq13_R193, hq14_R193, hq15_R193, hq16_R193, hq17_R193, hq18_R193, hq20_R193, hq5_R193, hq12_R193, hq11_R193⟩)
                  have hO_R213 : PO T n (pbk3 T n) := (by rw [show pbk3 T n = pbk2 T n from zif_t c_205]; exact hO_R193)
                  have ho__R213 := hO_R213
                  obtain ⟨ho1_R213, _, _, ho4_R213, ho16_R213, hoF_R213⟩ := ho__R213
                  have he13_R213 := tkE_le (T := T) ho1_R213
                  have hk15_R213 := tkK_le T n (pbk3 T n).1
                  obtain ⟨hq13_R213, hq14_R213, hq15_R213, hq16_R213, hq17_R213, hq18_R213, hq20_R213, hq5_R213, hq12_R213, hq11_R213⟩ := hPF_R213
                  have hfr_R213 := hfr_R193
                  have hcr_R213 := hcr_R193
                  refine lv_aload_n hx hb dX3_book_213 rfl (lv_at hl 0 rfl) ?_
                  refine va_get (D := g.1) (ci := 3) (v := .int (fi_193 17)) (C := RX3) (T := TX3) (N := 30) hx hb hts in_X3 hown hK hP 0 rfl rfl 17 (by decide) (hts _ q1314) (fun _ h9 => h9) rfl dX3_book_214 ?_
                  refine zti (hq17_R213) ?_
                  refine zi_ne (tgt := 239) hx hb (by omega) dX3_book_217 (by decide) (fun c_217 => ?_) (fun c_217 => ?_)
                  · have hPF_R239 : PF T n (pbk T n) fi_193 cn_193 := (by rw [show pbk T n = pbk3 T n from zif_same (pbad_id c_217)]; exact ⟨hq13_R213, hq14_R213, hq15_R213, hq16_R213, hq17_R213, hq18_R213, hq20_R213, hq5_R213, hq12_R213, hq11_R213⟩)
                    have hO_R239 : PO T n (pbk T n) := (by rw [show pbk T n = pbk3 T n from zif_same (pbad_id c_217)]; exact hO_R213)
                    have ho__R239 := hO_R239
                    obtain ⟨ho1_R239, _, _, ho4_R239, ho16_R239, hoF_R239⟩ := ho__R239
                    have he13_R239 := tkE_le (T := T) ho1_R239
                    have hk15_R239 := tkK_le T n (pbk T n).1
                    obtain ⟨hq13_R239, hq14_R239, hq15_R239, hq16_R239, hq17_R239, hq18_R239, hq20_R239, hq5_R239, hq12_R239, hq11_R239⟩ := hPF_R239
                    have hfr_R239 := hfr_R213
                    have hcr_R239 := hcr_R213
                    refine lv_aload_n hx hb dX3_book_239 rfl (lv_at hl 0 rfl) ?_
                    refine lv_iconst (v := nI 0) hx hb dX3_book_240 (by decide) ?_
                    refine va_put (D := g.1) (ci := 3) (v := .int (nI 0)) (ty := .int) (C := RX3) (T := TX3) (N := 30) hx hb hts in_X3 tyX3 tyX3_ok nmX3 hown hK hP hD hS 0 rfl rfl 12 (by decide) (hts _ q1309) (fun _ h9 => h9) rfl (by decide +kernel) rfl rfl (Nat.le_of_ble_eq_true rfl) dX3_book_241 (fun H locs hP hD hS => ?_)
                    have hP : va_P g.1 zCL (mW g ad (va_up fi_193 12 (nI 0)) cn_193 xl) _ := hP
                    have hD : va_D (mA ad s.heap.size) (mW g ad (va_up fi_193 12 (nI 0)) cn_193 xl) := hD
                    refine lv_aload_n hx hb dX3_book_244 rfl (lv_at hl 0 rfl) ?_
                    refine va_get (D := g.1) (ci := 3) (v := .int (fi_193 17)) (C := RX3) (T := TX3) (N := 30) hx hb hts in_X3 hown hK hP 0 rfl rfl 17 (by decide) (hts _ q1314) (fun _ h9 => h9) rfl dX3_book_245 ?_
                    refine zti (hq17_R239) ?_
                    refine zi_le (tgt := 267) hx hb (by omega) dX3_book_248 (by decide) (fun c_248 => ?_) (fun c_248 => ?_)
                    · refine lv_aload_n hx hb dX3_book_267 rfl (lv_at hl 0 rfl) ?_
                      refine lv_iconst (v := nI 0) hx hb dX3_book_268 (by decide) ?_
                      refine va_put (D := g.1) (ci := 3) (v := .int (nI 0)) (ty := .int) (C := RX3) (T := TX3) (N := 30) hx hb hts in_X3 tyX3 tyX3_ok nmX3 hown hK hP hD hS 0 rfl rfl 8 (by decide) (hts _ q1305) (fun _ h9 => h9) rfl (by decide +kernel) rfl rfl (Nat.le_of_ble_eq_true rfl) dX3_book_269 (fun H locs hP hD hS => ?_)
                      have hP : va_P g.1 zCL (mW g ad (va_up (va_up fi_193 8 (nI 0)) 12 (nI 0)) cn_193 xl) _ := hP
                      have hD : va_D (mA ad s.heap.size) (mW g ad (va_up (va_up fi_193 8 (nI 0)) 12 (nI 0)) cn_193 xl) := hD
                      refine lv_iconst (v := nI 0) hx hb dX3_book_272 (by decide) ?_
                      refine lv_istore_n (lv' := [(1, .int (nI 0)), (0, .ref (ad 0))]) hx hb dX3_book_273 rfl hl (by decide) rfl (fun ls hl => ?_)
                      refine zloopW (head := 274) (44) (fun k H locs cells slots ls => cells = 0 ∧ slots = 0 ∧ va_P g.1 zCL (mW g ad (va_up (va_up fi_193 8 (nI 0)) 12 (nI 0)) (va_up cn_193 4 (nF (va_cpy (pbk T n).2.2.2.2 (S.2.1 4) 0 0 k))) xl) H ∧ va_D (mA ad s.heap.size) (mW g ad (va_up (va_up fi_193 8 (nI 0)) 12 (nI 0)) (va_up cn_193 4 (nF (va_cpy (pbk T n).2.2.2.2 (S.2.1 4) 0 0 k))) xl) ∧ va_S (mA ad s.heap.size) s.heap H locs ∧ lv_has ls 2 [(0, .ref (ad 0)), (1, .int (nI k))]) (fun k hv_k ih_274 H locs cells slots ls hI => ?_) 0 (Nat.zero_le _) ?_
                      · obtain ⟨rfl, rfl, hP, hD, hS, hl⟩ := hI
                        refine lv_iload_n hx hb dX3_book_274 rfl (lv_at hl 1 rfl) ?_
                        refine lv_bipush (v := nI 44) hx hb dX3_book_275 (by decide) ?_
                        refine zc_ge (tgt := 298) hx hb (by omega) (by omega) dX3_book_277 (by decide) (fun c_277 => ?_) (fun c_277 => ?_)
                        · obtain rfl : 44 = k := by omega
                          obtain ⟨hP, hD⟩ := hP.exi hD 4 (f' := nF (pbk T n).2.2.2.2) rfl (fun j hj => by show nI (va_cpy _ _ 0 0 44 j) = nI ((pbk T n).2.2.2.2 j); rw [zcpy_in (by omega) (by omega)]; rw [Nat.zero_add, Nat.sub_zero])
                          have hP : va_P g.1 zCL (mW g ad (va_up (va_up fi_193 8 (nI 0)) 12 (nI 0)) (va_up cn_193 4 (nF (pbk T n).2.2.2.2)) xl) _ := hP
                          have hD : va_D (mA ad s.heap.size) (mW g ad (va_up (va_up fi_193 8 (nI 0)) 12 (nI 0)) (va_up cn_193 4 (nF (pbk T n).2.2.2.2)) xl) := hD
                          refine lv_aload_n hx hb dX3_book_298 rfl (lv_at hl 0 rfl) ?_
                          refine va_get (D := g.1) (ci := 3) (v := .ref (ad 4)) (C := RX3) (T := TX3) (N := 30) hx hb hts in_X3 hown hK hP 0 rfl rfl 4 (by decide) (hts _ q1301) (fun _ h9 => h9) rfl dX3_book_299 ?_
                          refine lv_iconst (v := nI 0) hx hb dX3_book_302 (by decide) ?_
                          refine zald hx hb hK hP 4 0 rfl rfl (j := 0) (by omega) (by decide) dX3_book_303 ?_
                          refine zti (show (nF ((pbk T n).2.2.2.2)) 0 = nI (((pbk T n).2.2.2.2) 0) from rfl) ?_
                          exact W.iret (v := nI (((pbk T n).2.2.2.2) 0)) hx hb hr (fun t ht hW => ⟨⟨nI (((pbk T n).2.2.2.2) 0), (va_up (va_up fi_193 8 (nI 0)) 12 (nI 0), va_up cn_193 4 (nF (pbk T n).2.2.2.2), xl), rfl, (by unfold opBook; rw [hT11, hn12, zif_f c_248]; exact ⟨rfl, ⟨((hfr_R239 0 (by decide)).trans hf0), rfl, rfl, ((hfr_R239 19 (by decide)).trans hf19), ((hfr_R239 29 (by decide)).trans hf29), ((hcr_R239 1 (by decide)).trans hc1), ((hcr_R239 2 (by decide)).trans hc2), ((hcr_R239 3 (by decide)).trans hc3), rfl, ((hcr_R239 7 (by decide)).trans hc7), ((hcr_R239 11 (by decide)).trans hc11), ((hcr_R239 26 (by decide)).trans hc26), ((hcr_R239 27 (by decide)).trans hc27), ((hcr_R239 28 (by decide)).trans hc28)⟩, ⟨_, _, _, _, _, _, _, _, _, hq5_R239, ((hcr_R239 6 (by decide)).trans hc6), ((hcr_R239 9 (by decide)).trans hc9), ((hcr_R239 10 (by decide)).trans hc10), ((hcr_R239 24 (by decide)).trans hc24), ((hcr_R239 25 (by decide)).trans hc25), hc21, hc22, ((hfr_R239 23 (by decide)).trans hf23)⟩⟩), by rw [ht]; exact hP, hD⟩, hS.F ht⟩) hS.2.2 dX3_book_304
                        · refine lv_aload_n hx hb dX3_book_280 rfl (lv_at hl 0 rfl) ?_
                          refine va_get (D := g.1) (ci := 3) (v := .ref (ad 4)) (C := RX3) (T := TX3) (N := 30) hx hb hts in_X3 hown hK hP 0 rfl rfl 4 (by decide) (hts _ q1301) (fun _ h9 => h9) rfl dX3_book_281 ?_
                          refine lv_iload_n hx hb dX3_book_284 rfl (lv_at hl 1 rfl) ?_
                          refine lv_aload_n hx hb dX3_book_285 rfl (lv_at hl 0 rfl) ?_
                          refine va_get (D := g.1) (ci := 3) (v := .ref (ad 5)) (C := RX3) (T := TX3) (N := 30) hx hb hts in_X3 hown hK hP 0 rfl rfl 5 (by decide) (hts _ q1302) (fun _ h9 => h9) rfl dX3_book_286 ?_
                          refine lv_iload_n hx hb dX3_book_289 rfl (lv_at hl 1 rfl) ?_
                          refine zald hx hb hK hP 5 0 rfl rfl (j := k) (by omega) (by decide) dX3_book_290 ?_
                          refine zti (congrFun hq5_R239 _) ?_
                          refine zti (show (nF ((pbk T n).2.2.2.2)) k = nI (((pbk T n).2.2.2.2) k) from rfl) ?_
                          refine zast (f := nF (va_cpy (pbk T n).2.2.2.2 (S.2.1 4) 0 0 k)) hx hb hK hP hD hS 4 0 rfl rfl (j := k) (by omega) (by decide) dX3_book_291 (fun H locs hP hD hS => ?_)
                          rw [nF_up] at hP hD
                          have hP : va_P g.1 zCL (mW g ad (va_up (va_up fi_193 8 (nI 0)) 12 (nI 0)) (va_up cn_193 4 (nF (va_up (va_cpy (pbk T n).2.2.2.2 (S.2.1 4) 0 0 k) k (((pbk T n).2.2.2.2) k)))) xl) _ := hP
                          have hD : va_D (mA ad s.heap.size) (mW g ad (va_up (va_up fi_193 8 (nI 0)) 12 (nI 0)) (va_up cn_193 4 (nF (va_up (va_cpy (pbk T n).2.2.2.2 (S.2.1 4) 0 0 k) k (((pbk T n).2.2.2.2) k)))) xl) := hD
                          refine lv_iinc (v := nI (k + 1)) (lv' := [(1, .int (nI (k + 1))), (0, .ref (ad 0))]) hx hb dX3_book_292 hl (k := 1) rfl (nI_add k 1) (by decide) rfl (fun ls hl => ?_)
                          refine lv_goto (tgt := 274) hx hb dX3_book_295 (by decide) ?_
                          rw [show va_up (va_cpy (pbk T n).2.2.2.2 (S.2.1 4) 0 0 k) k ((pbk T n).2.2.2.2 k) = va_cpy (pbk T n).2.2.2.2 (S.2.1 4) 0 0 (k + 1) by have h9 := zcpy_s (pbk T n).2.2.2.2 (S.2.1 4) 0 0 k; rw [Nat.zero_add] at h9; exact h9] at hP hD
                          exact ih_274 (by omega) _ _ _ _ _ ⟨rfl, rfl, hP, hD, hS, lv_sub hl [1, 0] rfl⟩
                      · rw [mW_up (cn := cn_193) (k := 4) (f := nF (va_cpy (pbk T n).2.2.2.2 (S.2.1 4) 0 0 0)) (by rw [zcpy_0]; exact (hcr_R239 4 (by decide)).trans hc4)] at hP
                        rw [mW_up (cn := cn_193) (k := 4) (f := nF (va_cpy (pbk T n).2.2.2.2 (S.2.1 4) 0 0 0)) (by rw [zcpy_0]; exact (hcr_R239 4 (by decide)).trans hc4)] at hD
                        have hP : va_P g.1 zCL (mW g ad (va_up (va_up fi_193 8 (nI 0)) 12 (nI 0)) (va_up cn_193 4 (nF (va_cpy (pbk T n).2.2.2.2 (S.2.1 4) 0 0 0))) xl) _ := hP
                        have hD : va_D (mA ad s.heap.size) (mW g ad (va_up (va_up fi_193 8 (nI 0)) 12 (nI 0)) (va_up cn_193 4 (nF (va_cpy (pbk T n).2.2.2.2 (S.2.1 4) 0 0 0))) xl) := hD
                        exact ⟨rfl, rfl, hP, hD, hS, lv_sub hl [1, 0] rfl⟩
                    · refine lv_aload_n hx hb dX3_book_251 rfl (lv_at hl 0 rfl) ?_
                      refine lv_aload_n hx hb dX3_book_252 rfl (lv_at hl 0 rfl) ?_
                      refine va_get (D := g.1) (ci := 3) (v := .int (fi_193 17)) (C := RX3) (T := TX3) (N := 30) hx hb hts in_X3 hown hK hP 0 rfl rfl 17 (by decide) (hts _ q1314) (fun _ h9 => h9) rfl dX3_book_253 ?_
                      refine zti (hq17_R239) ?_
                      refine va_put (D := g.1) (ci := 3) (v := .int (nI ((pbk T n).2.1))) (ty := .int) (C := RX3) (T := TX3) (N := 30) hx hb hts in_X3 tyX3 tyX3_ok nmX3 hown hK hP hD hS 0 rfl rfl 19 (by decide) (hts _ q1316) (fun _ h9 => h9) rfl (by decide +kernel) rfl rfl (Nat.le_of_ble_eq_true rfl) dX3_book_256 (fun H locs hP hD hS => ?_)
                      have hP : va_P g.1 zCL (mW g ad (va_up (va_up fi_193 12 (nI 0)) 19 (nI ((pbk T n).2.1))) cn_193 xl) _ := hP
                      have hD : va_D (mA ad s.heap.size) (mW g ad (va_up (va_up fi_193 12 (nI 0)) 19 (nI ((pbk T n).2.1))) cn_193 xl) := hD
                      refine lv_ldc hx hb hown (hts _ q1466) dX3_book_259 ?_
                      refine lv_aload_n hx hb dX3_book_261 rfl (lv_at hl 0 rfl) ?_
                      refine va_get (D := g.1) (ci := 3) (v := .int (fi_193 18)) (C := RX3) (T := TX3) (N := 30) hx hb hts in_X3 hown hK hP 0 rfl rfl 18 (by decide) (hts _ q1315) (fun _ h9 => h9) rfl dX3_book_262 ?_
                      refine lv_isub hx hb dX3_book_265 ?_
                      exact W.iret (v := (-1000100) - (fi_193 18)) hx hb hr (fun t ht hW => ⟨⟨(-1000100) - (fi_193 18), (va_up (va_up fi_193 12 (nI 0)) 19 (nI ((pbk T n).2.1)), cn_193, xl), rfl, (by unfold opBook; rw [hT11, hn12, zif_t c_248]; exact ⟨(congrArg (fun z => -1000100 - z) (hq18_R239 c_248)), ⟨((hfr_R239 0 (by decide)).trans hf0), ((hfr_R239 8 (by decide)).trans hf8), rfl, rfl, ((hfr_R239 29 (by decide)).trans hf29), ((hcr_R239 1 (by decide)).trans hc1), ((hcr_R239 2 (by decide)).trans hc2), ((hcr_R239 3 (by decide)).trans hc3), ((hcr_R239 4 (by decide)).trans hc4), ((hcr_R239 7 (by decide)).trans hc7), ((hcr_R239 11 (by decide)).trans hc11), ((hcr_R239 26 (by decide)).trans hc26), ((hcr_R239 27 (by decide)).trans hc27), ((hcr_R239 28 (by decide)).trans hc28)⟩, ⟨_, _, _, _, _, _, _, _, _, hq5_R239, ((hcr_R239 6 (by decide)).trans hc6), ((hcr_R239 9 (by decide)).trans hc9), ((hcr_R239 10 (by decide)).trans hc10), ((hcr_R239 24 (by decide)).trans hc24), ((hcr_R239 25 (by decide)).trans hc25), hc21, hc22, ((hfr_R239 23 (by decide)).trans hf23)⟩⟩), by rw [ht]; exact hP, hD⟩, hS.F ht⟩) hS.2.2 dX3_book_266
                  · refine lv_aload_n hx hb dX3_book_220 rfl (lv_at hl 0 rfl) ?_
                    refine va_get (D := g.1) (ci := 3) (v := .int (fi_193 20)) (C := RX3) (T := TX3) (N := 30) hx hb hts in_X3 hown hK hP 0 rfl rfl 20 (by decide) (hts _ q1317) (fun _ h9 => h9) rfl dX3_book_221 ?_
                    refine zti (hq20_R213) ?_
                    refine lv_aload_n hx hb dX3_book_224 rfl (lv_at hl 0 rfl) ?_
                    refine va_get (D := g.1) (ci := 3) (v := .ref (ad 5)) (C := RX3) (T := TX3) (N := 30) hx hb hts in_X3 hown hK hP 0 rfl rfl 5 (by decide) (hts _ q1302) (fun _ h9 => h9) rfl dX3_book_225 ?_
                    refine lv_iconst (v := nI 0) hx hb dX3_book_228 (by decide) ?_
                    refine zald hx hb hK hP 5 0 rfl rfl (j := 0) (by omega) (by decide) dX3_book_229 ?_
                    refine zti (congrFun hq5_R213 _) ?_
                    refine zti (show (nF ((pbk3 T n).2.2.2.2)) 0 = nI (((pbk3 T n).2.2.2.2) 0) from rfl) ?_
                    refine lv_ishr hx hb dX3_book_230 ?_
                    refine zti (show _ = nI ((pbk3 T n).2.2.2.1 / 2 ^ (pbk3 T n).2.2.2.2 0) from (zshr (by omega) (by omega))) ?_
                    have hdl : (pbk3 T n).2.2.2.1 / 2 ^ (pbk3 T n).2.2.2.2 0 ≤ (pbk3 T n).2.2.2.1 := Nat.div_le_self _ _
                    refine zi_eq (tgt := 239) hx hb (by omega) dX3_book_231 (by decide) (fun c_231 => ?_) (fun c_231 => ?_)
                    · have hPF_R239 : PF T n (pbk T n) fi_193 cn_193 := (by rw [show pbk T n = pbk3 T n from zif_t c_231]; exact ⟨hq13_R213, hq14_R213, hq15_R213, hq16_R213, hq17_R213, hq18_R213, hq20_R213, hq5_R213, hq12_R213, hq11_R213⟩)
                      have hO_R239 : PO T n (pbk T n) := (by rw [show pbk T n = pbk3 T n from zif_t c_231]; exact hO_R213)
                      have ho__R239 := hO_R239
                      obtain ⟨ho1_R239, _, _, ho4_R239, ho16_R239, hoF_R239⟩ := ho__R239
                      have he13_R239 := tkE_le (T := T) ho1_R239
                      have hk15_R239 := tkK_le T n (pbk T n).1
                      obtain ⟨hq13_R239, hq14_R239, hq15_R239, hq16_R239, hq17_R239, hq18_R239, hq20_R239, hq5_R239, hq12_R239, hq11_R239⟩ := hPF_R239
                      have hfr_R239 := hfr_R213
                      have hcr_R239 := hcr_R213
                      refine lv_aload_n hx hb dX3_book_239 rfl (lv_at hl 0 rfl) ?_
                      refine lv_iconst (v := nI 0) hx hb dX3_book_240 (by decide) ?_
                      refine va_put (D := g.1) (ci := 3) (v := .int (nI 0)) (ty := .int) (C := RX3) (T := TX3) (N := 30) hx hb hts in_X3 tyX3 tyX3_ok nmX3 hown hK hP hD hS 0 rfl rfl 12 (by decide) (hts _ q1309) (fun _ h9 => h9) rfl (by decide +kernel) rfl rfl (Nat.le_of_ble_eq_true rfl) dX3_book_241 (fun H locs hP hD hS => ?_)
                      have hP : va_P g.1 zCL (mW g ad (va_up fi_193 12 (nI 0)) cn_193 xl) _ := hP
                      have hD : va_D (mA ad s.heap.size) (mW g ad (va_up fi_193 12 (nI 0)) cn_193 xl) := hD
                      refine lv_aload_n hx hb dX3_book_244 rfl (lv_at hl 0 rfl) ?_
                      refine va_get (D := g.1) (ci := 3) (v := .int (fi_193 17)) (C := RX3) (T := TX3) (N := 30) hx hb hts in_X3 hown hK hP 0 rfl rfl 17 (by decide) (hts _ q1314) (fun _ h9 => h9) rfl dX3_book_245 ?_
                      refine zti (hq17_R239) ?_
                      refine zi_le (tgt := 267) hx hb (by omega) dX3_book_248 (by decide) (fun c_248 => ?_) (fun c_248 => ?_)
                      · refine lv_aload_n hx hb dX3_book_267 rfl (lv_at hl 0 rfl) ?_
                        refine lv_iconst (v := nI 0) hx hb dX3_book_268 (by decide) ?_
                        refine va_put (D := g.1) (ci := 3) (v := .int (nI 0)) (ty := .int) (C := RX3) (T := TX3) (N := 30) hx hb hts in_X3 tyX3 tyX3_ok nmX3 hown hK hP hD hS 0 rfl rfl 8 (by decide) (hts _ q1305) (fun _ h9 => h9) rfl (by decide +kernel) rfl rfl (Nat.le_of_ble_eq_true rfl) dX3_book_269 (fun H locs hP hD hS => ?_)
                        have hP : va_P g.1 zCL (mW g ad (va_up (va_up fi_193 8 (nI 0)) 12 (nI 0)) cn_193 xl) _ := hP
                        have hD : va_D (mA ad s.heap.size) (mW g ad (va_up (va_up fi_193 8 (nI 0)) 12 (nI 0)) cn_193 xl) := hD
                        refine lv_iconst (v := nI 0) hx hb dX3_book_272 (by decide) ?_
                        refine lv_istore_n (lv' := [(1, .int (nI 0)), (0, .ref (ad 0))]) hx hb dX3_book_273 rfl hl (by decide) rfl (fun ls hl => ?_)
                        refine zloopW (head := 274) (44) (fun k H locs cells slots ls => cells = 0 ∧ slots = 0 ∧ va_P g.1 zCL (mW g ad (va_up (va_up fi_193 8 (nI 0)) 12 (nI 0)) (va_up cn_193 4 (nF (va_cpy (pbk T n).2.2.2.2 (S.2.1 4) 0 0 k))) xl) H ∧ va_D (mA ad s.heap.size) (mW g ad (va_up (va_up fi_193 8 (nI 0)) 12 (nI 0)) (va_up cn_193 4 (nF (va_cpy (pbk T n).2.2.2.2 (S.2.1 4) 0 0 k))) xl) ∧ va_S (mA ad s.heap.size) s.heap H locs ∧ lv_has ls 2 [(0, .ref (ad 0)), (1, .int (nI k))]) (fun k hv_k ih_274 H locs cells slots ls hI => ?_) 0 (Nat.zero_le _) ?_
                        · obtain ⟨rfl, rfl, hP, hD, hS, hl⟩ := hI
                          refine lv_iload_n hx hb dX3_book_274 rfl (lv_at hl 1 rfl) ?_
                          refine lv_bipush (v := nI 44) hx hb dX3_book_275 (by decide) ?_
                          refine zc_ge (tgt := 298) hx hb (by omega) (by omega) dX3_book_277 (by decide) (fun c_277 => ?_) (fun c_277 => ?_)
                          · obtain rfl : 44 = k := by omega
                            obtain ⟨hP, hD⟩ := hP.exi hD 4 (f' := nF (pbk T n).2.2.2.2) rfl (fun j hj => by show nI (va_cpy _ _ 0 0 44 j) = nI ((pbk T n).2.2.2.2 j); rw [zcpy_in (by omega) (by omega)]; rw [Nat.zero_add, Nat.sub_zero])
                            have hP : va_P g.1 zCL (mW g ad (va_up (va_up fi_193 8 (nI 0)) 12 (nI 0)) (va_up cn_193 4 (nF (pbk T n).2.2.2.2)) xl) _ := hP
                            have hD : va_D (mA ad s.heap.size) (mW g ad (va_up (va_up fi_193 8 (nI 0)) 12 (nI 0)) (va_up cn_193 4 (nF (pbk T n).2.2.2.2)) xl) := hD
                            refine lv_aload_n hx hb dX3_book_298 rfl (lv_at hl 0 rfl) ?_
                            refine va_get (D := g.1) (ci := 3) (v := .ref (ad 4)) (C := RX3) (T := TX3) (N := 30) hx hb hts in_X3 hown hK hP 0 rfl rfl 4 (by decide) (hts _ q1301) (fun _ h9 => h9) rfl dX3_book_299 ?_
                            refine lv_iconst (v := nI 0) hx hb dX3_book_302 (by decide) ?_
                            refine zald hx hb hK hP 4 0 rfl rfl (j := 0) (by omega) (by decide) dX3_book_303 ?_
                            refine zti (show (nF ((pbk T n).2.2.2.2)) 0 = nI (((pbk T n).2.2.2.2) 0) from rfl) ?_
                            exact W.iret (v := nI (((pbk T n).2.2.2.2) 0)) hx hb hr (fun t ht hW => ⟨⟨nI (((pbk T n).2.2.2.2) 0), (va_up (va_up fi_193 8 (nI 0)) 12 (nI 0), va_up cn_193 4 (nF (pbk T n).2.2.2.2), xl), rfl, (by unfold opBook; rw [hT11, hn12, zif_f c_248]; exact ⟨rfl, ⟨((hfr_R239 0 (by decide)).trans hf0), rfl, rfl, ((hfr_R239 19 (by decide)).trans hf19), ((hfr_R239 29 (by decide)).trans hf29), ((hcr_R239 1 (by decide)).trans hc1), ((hcr_R239 2 (by decide)).trans hc2), ((hcr_R239 3 (by decide)).trans hc3), rfl, ((hcr_R239 7 (by decide)).trans hc7), ((hcr_R239 11 (by decide)).trans hc11), ((hcr_R239 26 (by decide)).trans hc26), ((hcr_R239 27 (by decide)).trans hc27), ((hcr_R239 28 (by decide)).trans hc28)⟩, ⟨_, _, _, _, _, _, _, _, _, hq5_R239, ((hcr_R239 6 (by decide)).trans hc6), ((hcr_R239 9 (by decide)).trans hc9), ((hcr_R239 10 (by decide)).trans hc10), ((hcr_R239 24 (by decide)).trans hc24), ((hcr_R239 25 (by decide)).trans hc25), hc21, hc22, ((hfr_R239 23 (by decide)).trans hf23)⟩⟩), by rw [ht]; exact hP, hD⟩, hS.F ht⟩) hS.2.2 dX3_book_304
                          · refine lv_aload_n hx hb dX3_book_280 rfl (lv_at hl 0 rfl) ?_
                            refine va_get (D := g.1) (ci := 3) (v := .ref (ad 4)) (C := RX3) (T := TX3) (N := 30) hx hb hts in_X3 hown hK hP 0 rfl rfl 4 (by decide) (hts _ q1301) (fun _ h9 => h9) rfl dX3_book_281 ?_
                            refine lv_iload_n hx hb dX3_book_284 rfl (lv_at hl 1 rfl) ?_
                            refine lv_aload_n hx hb dX3_book_285 rfl (lv_at hl 0 rfl) ?_
                            refine va_get (D := g.1) (ci := 3) (v := .ref (ad 5)) (C := RX3) (T := TX3) (N := 30) hx hb hts in_X3 hown hK hP 0 rfl rfl 5 (by decide) (hts _ q1302) (fun _ h9 => h9) rfl dX3_book_286 ?_
                            refine lv_iload_n hx hb dX3_book_289 rfl (lv_at hl 1 rfl) ?_
                            refine zald hx hb hK hP 5 0 rfl rfl (j := k) (by omega) (by decide) dX3_book_290 ?_
                            refine zti (congrFun hq5_R239 _) ?_
                            refine zti (show (nF ((pbk T n).2.2.2.2)) k = nI (((pbk T n).2.2.2.2) k) from rfl) ?_
                            refine zast (f := nF (va_cpy (pbk T n).2.2.2.2 (S.2.1 4) 0 0 k)) hx hb hK hP hD hS 4 0 rfl rfl (j := k) (by omega) (by decide) dX3_book_291 (fun H locs hP hD hS => ?_)
                            rw [nF_up] at hP hD
                            have hP : va_P g.1 zCL (mW g ad (va_up (va_up fi_193 8 (nI 0)) 12 (nI 0)) (va_up cn_193 4 (nF (va_up (va_cpy (pbk T n).2.2.2.2 (S.2.1 4) 0 0 k) k (((pbk T n).2.2.2.2) k)))) xl) _ := hP
                            have hD : va_D (mA ad s.heap.size) (mW g ad (va_up (va_up fi_193 8 (nI 0)) 12 (nI 0)) (va_up cn_193 4 (nF (va_up (va_cpy (pbk T n).2.2.2.2 (S.2.1 4) 0 0 k) k (((pbk T n).2.2.2.2) k)))) xl) := hD
                            refine lv_iinc (v := nI (k + 1)) (lv' := [(1, .int (nI (k + 1))), (0, .ref (ad 0))]) hx hb dX3_book_292 hl (k := 1) rfl (nI_add k 1) (by decide) rfl (fun ls hl => ?_)
                            refine lv_goto (tgt := 274) hx hb dX3_book_295 (by decide) ?_
                            rw [show va_up (va_cpy (pbk T n).2.2.2.2 (S.2.1 4) 0 0 k) k ((pbk T n).2.2.2.2 k) = va_cpy (pbk T n).2.2.2.2 (S.2.1 4) 0 0 (k + 1) by have h9 := zcpy_s (pbk T n).2.2.2.2 (S.2.1 4) 0 0 k; rw [Nat.zero_add] at h9; exact h9] at hP hD
                            exact ih_274 (by omega) _ _ _ _ _ ⟨rfl, rfl, hP, hD, hS, lv_sub hl [1, 0] rfl⟩
                        · rw [mW_up (cn := cn_193) (k := 4) (f := nF (va_cpy (pbk T n).2.2.2.2 (S.2.1 4) 0 0 0)) (by rw [zcpy_0]; exact (hcr_R239 4 (by decide)).trans hc4)] at hP
                          rw [mW_up (cn := cn_193) (k := 4) (f := nF (va_cpy (pbk T n).2.2.2.2 (S.2.1 4) 0 0 0)) (by rw [zcpy_0]; exact (hcr_R239 4 (by decide)).trans hc4)] at hD
                          have hP : va_P g.1 zCL (mW g ad (va_up (va_up fi_193 8 (nI 0)) 12 (nI 0)) (va_up cn_193 4 (nF (va_cpy (pbk T n).2.2.2.2 (S.2.1 4) 0 0 0))) xl) _ := hP
                          have hD : va_D (mA ad s.heap.size) (mW g ad (va_up (va_up fi_193 8 (nI 0)) 12 (nI 0)) (va_up cn_193 4 (nF (va_cpy (pbk T n).2.2.2.2 (S.2.1 4) 0 0 0))) xl) := hD
                          exact ⟨rfl, rfl, hP, hD, hS, lv_sub hl [1, 0] rfl⟩
                      · refine lv_aload_n hx hb dX3_book_251 rfl (lv_at hl 0 rfl) ?_
                        refine lv_aload_n hx hb dX3_book_252 rfl (lv_at hl 0 rfl) ?_
                        refine va_get (D := g.1) (ci := 3) (v := .int (fi_193 17)) (C := RX3) (T := TX3) (N := 30) hx hb hts in_X3 hown hK hP 0 rfl rfl 17 (by decide) (hts _ q1314) (fun _ h9 => h9) rfl dX3_book_253 ?_
                        refine zti (hq17_R239) ?_
                        refine va_put (D := g.1) (ci := 3) (v := .int (nI ((pbk T n).2.1))) (ty := .int) (C := RX3) (T := TX3) (N := 30) hx hb hts in_X3 tyX3 tyX3_ok nmX3 hown hK hP hD hS 0 rfl rfl 19 (by decide) (hts _ q1316) (fun _ h9 => h9) rfl (by decide +kernel) rfl rfl (Nat.le_of_ble_eq_true rfl) dX3_book_256 (fun H locs hP hD hS => ?_)
                        have hP : va_P g.1 zCL (mW g ad (va_up (va_up fi_193 12 (nI 0)) 19 (nI ((pbk T n).2.1))) cn_193 xl) _ := hP
                        have hD : va_D (mA ad s.heap.size) (mW g ad (va_up (va_up fi_193 12 (nI 0)) 19 (nI ((pbk T n).2.1))) cn_193 xl) := hD
                        refine lv_ldc hx hb hown (hts _ q1466) dX3_book_259 ?_
                        refine lv_aload_n hx hb dX3_book_261 rfl (lv_at hl 0 rfl) ?_
                        refine va_get (D := g.1) (ci := 3) (v := .int (fi_193 18)) (C := RX3) (T := TX3) (N := 30) hx hb hts in_X3 hown hK hP 0 rfl rfl 18 (by decide) (hts _ q1315) (fun _ h9 => h9) rfl dX3_book_262 ?_
                        refine lv_isub hx hb dX3_book_265 ?_
                        exact W.iret (v := (-1000100) - (fi_193 18)) hx hb hr (fun t ht hW => ⟨⟨(-1000100) - (fi_193 18), (va_up (va_up fi_193 12 (nI 0)) 19 (nI ((pbk T n).2.1)), cn_193, xl), rfl, (by unfold opBook; rw [hT11, hn12, zif_t c_248]; exact ⟨(congrArg (fun z => -1000100 - z) (hq18_R239 c_248)), ⟨((hfr_R239 0 (by decide)).trans hf0), ((hfr_R239 8 (by decide)).trans hf8), rfl, rfl, ((hfr_R239 29 (by decide)).trans hf29), ((hcr_R239 1 (by decide)).trans hc1), ((hcr_R239 2 (by decide)).trans hc2), ((hcr_R239 3 (by decide)).trans hc3), ((hcr_R239 4 (by decide)).trans hc4), ((hcr_R239 7 (by decide)).trans hc7), ((hcr_R239 11 (by decide)).trans hc11), ((hcr_R239 26 (by decide)).trans hc26), ((hcr_R239 27 (by decide)).trans hc27), ((hcr_R239 28 (by decide)).trans hc28)⟩, ⟨_, _, _, _, _, _, _, _, _, hq5_R239, ((hcr_R239 6 (by decide)).trans hc6), ((hcr_R239 9 (by decide)).trans hc9), ((hcr_R239 10 (by decide)).trans hc10), ((hcr_R239 24 (by decide)).trans hc24), ((hcr_R239 25 (by decide)).trans hc25), hc21, hc22, ((hfr_R239 23 (by decide)).trans hf23)⟩⟩), by rw [ht]; exact hP, hD⟩, hS.F ht⟩) hS.2.2 dX3_book_266
                    · refine lv_aload_n hx hb dX3_book_234 rfl (lv_at hl 0 rfl) ?_
                      refine lv_iconst (v := nI 4) hx hb dX3_book_235 (by decide) ?_
                      have hle_236 := hS.1
                      refine va_callv (va_runV (As := [.int (nI 4)]) (rest := []) ⟨hx, hb, hml, hown, hts⟩ (m_X3_bad l g ad fi_193 cn_193 xl _ T n (pbk3 T n) (show PF T n (pbk3 T n) fi_193 cn_193 from ⟨hq13_R213, hq14_R213, hq15_R213, hq16_R213, hq17_R213, hq18_R213, hq20_R213, hq5_R213, hq12_R213, hq11_R213⟩) hO_R213 4 (by decide)) (cwV 1 hts (lw_V q1442 q1444 qs34 q69 q1445) rfl rfl rfl hdV_X3_bad ⟨Nat.le_of_ble_eq_true rfl, Nat.le_of_ble_eq_true rfl⟩) (zpreV hK hN (va_recv hK hP (ci := 3) (q0 := 0) rfl rfl) ⟨rfl, hP, hD.weaken (fun _ _ _ _ => trivial)⟩) rfl rfl hl.1 rfl (lv_room (Nat.le_of_ble_eq_true rfl)) dX3_book_236 ⟨Nat.le_of_ble_eq_true rfl, Nat.le_of_ble_eq_true rfl⟩) hS (fun q _ h => mA_le hS.1 q h) (mA_le hS.1) (fun u t H locs ht hvm hw_236 hB hzz hkk hS => ?_)
                      obtain ⟨hP, hD⟩ := hB
                      rw [ht] at hP
                      have hD := hD.weaken (fun _ _ _ h => mA_le hle_236 _ h)
                      obtain ⟨fi_239, cn_239, xl_239⟩ := u
                      obtain ⟨_, hPF_239, hO_239, hxl_239, hfr_239, hcr_239⟩ := hw_236
                      have hxl_239 : xl = xl_239 := hxl_239.symm
                      subst hxl_239
                      have hPF_239 : PF T n (pbad 4 (pbk3 T n)) fi_239 cn_239 := hPF_239
                      have hO_239 : PO T n (pbad 4 (pbk3 T n)) := hO_239
                      have ho__239 := hO_239
                      obtain ⟨ho1_239, _, _, ho4_239, ho16_239, hoF_239⟩ := ho__239
                      have he13_239 := tkE_le (T := T) ho1_239
                      have hk15_239 := tkK_le T n (pbad 4 (pbk3 T n)).1
                      obtain ⟨hq13_239, hq14_239, hq15_239, hq16_239, hq17_239, hq18_239, hq20_239, hq5_239, hq12_239, hq11_239⟩ := hPF_239
                      have hfr_239 : ∀ k, (k < 13 ∨ 20 < k ∨ k = 19) → fi_239 k = fi k := fun k hk => (hfr_239 k hk).trans (hfr_R213 k hk)
                      have hcr_239 : ∀ k, k ≠ 5 → cn_239 k = cn k := fun k hk => (hcr_239 k hk).trans (hcr_R213 k hk)
                      have hP : va_P g.1 zCL (mW g ad fi_239 cn_239 xl) _ := hP
                      have hD : va_D (mA ad s.heap.size) (mW g ad fi_239 cn_239 xl) := hD
                      have hPF_R239 : PF T n (pbk T n) fi_239 cn_239 := (by rw [show pbk T n = pbad 4 (pbk3 T n) from zif_f c_231]; exact ⟨hq13_239, hq14_239, hq15_239, hq16_239, hq17_239, hq18_239, hq20_239, hq5_239, hq12_239, hq11_239⟩)
                      have hO_R239 : PO T n (pbk T n) := (by rw [show pbk T n = pbad 4 (pbk3 T n) from zif_f c_231]; exact hO_239)
                      have ho__R239 := hO_R239
                      obtain ⟨ho1_R239, _, _, ho4_R239, ho16_R239, hoF_R239⟩ := ho__R239
                      have he13_R239 := tkE_le (T := T) ho1_R239
                      have hk15_R239 := tkK_le T n (pbk T n).1
                      obtain ⟨hq13_R239, hq14_R239, hq15_R239, hq16_R239, hq17_R239, hq18_R239, hq20_R239, hq5_R239, hq12_R239, hq11_R239⟩ := hPF_R239
                      have hfr_R239 := hfr_239
                      have hcr_R239 := hcr_239
                      refine lv_aload_n hx hb dX3_book_239 rfl (lv_at hl 0 rfl) ?_
                      refine lv_iconst (v := nI 0) hx hb dX3_book_240 (by decide) ?_
                      refine va_put (D := g.1) (ci := 3) (v := .int (nI 0)) (ty := .int) (C := RX3) (T := TX3) (N := 30) hx hb hts in_X3 tyX3 tyX3_ok nmX3 hown hK hP hD hS 0 rfl rfl 12 (by decide) (hts _ q1309) (fun _ h9 => h9) rfl (by decide +kernel) rfl rfl (Nat.le_of_ble_eq_true rfl) dX3_book_241 (fun H locs hP hD hS => ?_)
                      have hP : va_P g.1 zCL (mW g ad (va_up fi_239 12 (nI 0)) cn_239 xl) _ := hP
                      have hD : va_D (mA ad s.heap.size) (mW g ad (va_up fi_239 12 (nI 0)) cn_239 xl) := hD
                      refine lv_aload_n hx hb dX3_book_244 rfl (lv_at hl 0 rfl) ?_
                      refine va_get (D := g.1) (ci := 3) (v := .int (fi_239 17)) (C := RX3) (T := TX3) (N := 30) hx hb hts in_X3 hown hK hP 0 rfl rfl 17 (by decide) (hts _ q1314) (fun _ h9 => h9) rfl dX3_book_245 ?_
                      refine zti (hq17_R239) ?_
                      refine zi_le (tgt := 267) hx hb (by omega) dX3_book_248 (by decide) (fun c_248 => ?_) (fun c_248 => ?_)
                      · refine lv_aload_n hx hb dX3_book_267 rfl (lv_at hl 0 rfl) ?_
                        refine lv_iconst (v := nI 0) hx hb dX3_book_268 (by decide) ?_
                        refine va_put (D := g.1) (ci := 3) (v := .int (nI 0)) (ty := .int) (C := RX3) (T := TX3) (N := 30) hx hb hts in_X3 tyX3 tyX3_ok nmX3 hown hK hP hD hS 0 rfl rfl 8 (by decide) (hts _ q1305) (fun _ h9 => h9) rfl (by decide +kernel) rfl rfl (Nat.le_of_ble_eq_true rfl) dX3_book_269 (fun H locs hP hD hS => ?_)
                        have hP : va_P g.1 zCL (mW g ad (va_up (va_up fi_239 8 (nI 0)) 12 (nI 0)) cn_239 xl) _ := hP
                        have hD : va_D (mA ad s.heap.size) (mW g ad (va_up (va_up fi_239 8 (nI 0)) 12 (nI 0)) cn_239 xl) := hD
                        refine lv_iconst (v := nI 0) hx hb dX3_book_272 (by decide) ?_
                        refine lv_istore_n (lv' := [(1, .int (nI 0)), (0, .ref (ad 0))]) hx hb dX3_book_273 rfl hl (by decide) rfl (fun ls hl => ?_)
                        refine zloopW (head := 274) (44) (fun k H locs cells slots ls => cells = 0 ∧ slots = 0 ∧ va_P g.1 zCL (mW g ad (va_up (va_up fi_239 8 (nI 0)) 12 (nI 0)) (va_up cn_239 4 (nF (va_cpy (pbk T n).2.2.2.2 (S.2.1 4) 0 0 k))) xl) H ∧ va_D (mA ad s.heap.size) (mW g ad (va_up (va_up fi_239 8 (nI 0)) 12 (nI 0)) (va_up cn_239 4 (nF (va_cpy (pbk T n).2.2.2.2 (S.2.1 4) 0 0 k))) xl) ∧ va_S (mA ad s.heap.size) s.heap H locs ∧ lv_has ls 2 [(0, .ref (ad 0)), (1, .int (nI k))]) (fun k hv_k ih_274 H locs cells slots ls hI => ?_) 0 (Nat.zero_le _) ?_
                        · obtain ⟨rfl, rfl, hP, hD, hS, hl⟩ := hI
                          refine lv_iload_n hx hb dX3_book_274 rfl (lv_at hl 1 rfl) ?_
                          refine lv_bipush (v := nI 44) hx hb dX3_book_275 (by decide) ?_
                          refine zc_ge (tgt := 298) hx hb (by omega) (by omega) dX3_book_277 (by decide) (fun c_277 => ?_) (fun c_277 => ?_)
                          · obtain rfl : 44 = k := by omega
                            obtain ⟨hP, hD⟩ := hP.exi hD 4 (f' := nF (pbk T n).2.2.2.2) rfl (fun j hj => by show nI (va_cpy _ _ 0 0 44 j) = nI ((pbk T n).2.2.2.2 j); rw [zcpy_in (by omega) (by omega)]; rw [Nat.zero_add, Nat.sub_zero])
                            have hP : va_P g.1 zCL (mW g ad (va_up (va_up fi_239 8 (nI 0)) 12 (nI 0)) (va_up cn_239 4 (nF (pbk T n).2.2.2.2)) xl) _ := hP
                            have hD : va_D (mA ad s.heap.size) (mW g ad (va_up (va_up fi_239 8 (nI 0)) 12 (nI 0)) (va_up cn_239 4 (nF (pbk T n).2.2.2.2)) xl) := hD
                            refine lv_aload_n hx hb dX3_book_298 rfl (lv_at hl 0 rfl) ?_
                            refine va_get (D := g.1) (ci := 3) (v := .ref (ad 4)) (C := RX3) (T := TX3) (N := 30) hx hb hts in_X3 hown hK hP 0 rfl rfl 4 (by decide) (hts _ q1301) (fun _ h9 => h9) rfl dX3_book_299 ?_
                            refine lv_iconst (v := nI 0) hx hb dX3_book_302 (by decide) ?_
                            refine zald hx hb hK hP 4 0 rfl rfl (j := 0) (by omega) (by decide) dX3_book_303 ?_
                            refine zti (show (nF ((pbk T n).2.2.2.2)) 0 = nI (((pbk T n).2.2.2.2) 0) from rfl) ?_
                            exact W.iret (v := nI (((pbk T n).2.2.2.2) 0)) hx hb hr (fun t ht hW => ⟨⟨nI (((pbk T n).2.2.2.2) 0), (va_up (va_up fi_239 8 (nI 0)) 12 (nI 0), va_up cn_239 4 (nF (pbk T n).2.2.2.2), xl), rfl, (by unfold opBook; rw [hT11, hn12, zif_f c_248]; exact ⟨rfl, ⟨((hfr_R239 0 (by decide)).trans hf0), rfl, rfl, ((hfr_R239 19 (by decide)).trans hf19), ((hfr_R239 29 (by decide)).trans hf29), ((hcr_R239 1 (by decide)).trans hc1), ((hcr_R239 2 (by decide)).trans hc2), ((hcr_R239 3 (by decide)).trans hc3), rfl, ((hcr_R239 7 (by decide)).trans hc7), ((hcr_R239 11 (by decide)).trans hc11), ((hcr_R239 26 (by decide)).trans hc26), ((hcr_R239 27 (by decide)).trans hc27), ((hcr_R239 28 (by decide)).trans hc28)⟩, ⟨_, _, _, _, _, _, _, _, _, hq5_R239, ((hcr_R239 6 (by decide)).trans hc6), ((hcr_R239 9 (by decide)).trans hc9), ((hcr_R239 10 (by decide)).trans hc10), ((hcr_R239 24 (by decide)).trans hc24), ((hcr_R239 25 (by decide)).trans hc25), hc21, hc22, ((hfr_R239 23 (by decide)).trans hf23)⟩⟩), by rw [ht]; exact hP, hD⟩, hS.F ht⟩) hS.2.2 dX3_book_304
                          · refine lv_aload_n hx hb dX3_book_280 rfl (lv_at hl 0 rfl) ?_
                            refine va_get (D := g.1) (ci := 3) (v := .ref (ad 4)) (C := RX3) (T := TX3) (N := 30) hx hb hts in_X3 hown hK hP 0 rfl rfl 4 (by decide) (hts _ q1301) (fun _ h9 => h9) rfl dX3_book_281 ?_
                            refine lv_iload_n hx hb dX3_book_284 rfl (lv_at hl 1 rfl) ?_
                            refine lv_aload_n hx hb dX3_book_285 rfl (lv_at hl 0 rfl) ?_
                            refine va_get (D := g.1) (ci := 3) (v := .ref (ad 5)) (C := RX3) (T := TX3) (N := 30) hx hb hts in_X3 hown hK hP 0 rfl rfl 5 (by decide) (hts _ q1302) (fun _ h9 => h9) rfl dX3_book_286 ?_
                            refine lv_iload_n hx hb dX3_book_289 rfl (lv_at hl 1 rfl) ?_
                            refine zald hx hb hK hP 5 0 rfl rfl (j := k) (by omega) (by decide) dX3_book_290 ?_
                            refine zti (congrFun hq5_R239 _) ?_
                            refine zti (show (nF ((pbk T n).2.2.2.2)) k = nI (((pbk T n).2.2.2.2) k) from rfl) ?_
                            refine zast (f := nF (va_cpy (pbk T n).2.2.2.2 (S.2.1 4) 0 0 k)) hx hb hK hP hD hS 4 0 rfl rfl (j := k) (by omega) (by decide) dX3_book_291 (fun H locs hP hD hS => ?_)
                            rw [nF_up] at hP hD
                            have hP : va_P g.1 zCL (mW g ad (va_up (va_up fi_239 8 (nI 0)) 12 (nI 0)) (va_up cn_239 4 (nF (va_up (va_cpy (pbk T n).2.2.2.2 (S.2.1 4) 0 0 k) k (((pbk T n).2.2.2.2) k)))) xl) _ := hP
                            have hD : va_D (mA ad s.heap.size) (mW g ad (va_up (va_up fi_239 8 (nI 0)) 12 (nI 0)) (va_up cn_239 4 (nF (va_up (va_cpy (pbk T n).2.2.2.2 (S.2.1 4) 0 0 k) k (((pbk T n).2.2.2.2) k)))) xl) := hD
                            refine lv_iinc (v := nI (k + 1)) (lv' := [(1, .int (nI (k + 1))), (0, .ref (ad 0))]) hx hb dX3_book_292 hl (k := 1) rfl (nI_add k 1) (by decide) rfl (fun ls hl => ?_)
                            refine lv_goto (tgt := 274) hx hb dX3_book_295 (by decide) ?_
                            rw [show va_up (va_cpy (pbk T n).2.2.2.2 (S.2.1 4) 0 0 k) k ((pbk T n).2.2.2.2 k) = va_cpy (pbk T n).2.2.2.2 (S.2.1 4) 0 0 (k + 1) by have h9 := zcpy_s (pbk T n).2.2.2.2 (S.2.1 4) 0 0 k; rw [Nat.zero_add] at h9; exact h9] at hP hD
                            exact ih_274 (by omega) _ _ _ _ _ ⟨rfl, rfl, hP, hD, hS, lv_sub hl [1, 0] rfl⟩
                        · rw [mW_up (cn := cn_239) (k := 4) (f := nF (va_cpy (pbk T n).2.2.2.2 (S.2.1 4) 0 0 0)) (by rw [zcpy_0]; exact (hcr_R239 4 (by decide)).trans hc4)] at hP
                          rw [mW_up (cn := cn_239) (k := 4) (f := nF (va_cpy (pbk T n).2.2.2.2 (S.2.1 4) 0 0 0)) (by rw [zcpy_0]; exact (hcr_R239 4 (by decide)).trans hc4)] at hD
                          have hP : va_P g.1 zCL (mW g ad (va_up (va_up fi_239 8 (nI 0)) 12 (nI 0)) (va_up cn_239 4 (nF (va_cpy (pbk T n).2.2.2.2 (S.2.1 4) 0 0 0))) xl) _ := hP
                          have hD : va_D (mA ad s.heap.size) (mW g ad (va_up (va_up fi_239 8 (nI 0)) 12 (nI 0)) (va_up cn_239 4 (nF (va_cpy (pbk T n).2.2.2.2 (S.2.1 4) 0 0 0))) xl) := hD
                          exact ⟨rfl, rfl, hP, hD, hS, lv_sub hl [1, 0] rfl⟩
                      · refine lv_aload_n hx hb dX3_book_251 rfl (lv_at hl 0 rfl) ?_
                        refine lv_aload_n hx hb dX3_book_252 rfl (lv_at hl 0 rfl) ?_
                        refine va_get (D := g.1) (ci := 3) (v := .int (fi_239 17)) (C := RX3) (T := TX3) (N := 30) hx hb hts in_X3 hown hK hP 0 rfl rfl 17 (by decide) (hts _ q1314) (fun _ h9 => h9) rfl dX3_book_253 ?_
                        refine zti (hq17_R239) ?_
                        refine va_put (D := g.1) (ci := 3) (v := .int (nI ((pbk T n).2.1))) (ty := .int) (C := RX3) (T := TX3) (N := 30) hx hb hts in_X3 tyX3 tyX3_ok nmX3 hown hK hP hD hS 0 rfl rfl 19 (by decide) (hts _ q1316) (fun _ h9 => h9) rfl (by decide +kernel) rfl rfl (Nat.le_of_ble_eq_true rfl) dX3_book_256 (fun H locs hP hD hS => ?_)
                        have hP : va_P g.1 zCL (mW g ad (va_up (va_up fi_239 12 (nI 0)) 19 (nI ((pbk T n).2.1))) cn_239 xl) _ := hP
                        have hD : va_D (mA ad s.heap.size) (mW g ad (va_up (va_up fi_239 12 (nI 0)) 19 (nI ((pbk T n).2.1))) cn_239 xl) := hD
                        refine lv_ldc hx hb hown (hts _ q1466) dX3_book_259 ?_
                        refine lv_aload_n hx hb dX3_book_261 rfl (lv_at hl 0 rfl) ?_
                        refine va_get (D := g.1) (ci := 3) (v := .int (fi_239 18)) (C := RX3) (T := TX3) (N := 30) hx hb hts in_X3 hown hK hP 0 rfl rfl 18 (by decide) (hts _ q1315) (fun _ h9 => h9) rfl dX3_book_262 ?_
                        refine lv_isub hx hb dX3_book_265 ?_
                        exact W.iret (v := (-1000100) - (fi_239 18)) hx hb hr (fun t ht hW => ⟨⟨(-1000100) - (fi_239 18), (va_up (va_up fi_239 12 (nI 0)) 19 (nI ((pbk T n).2.1)), cn_239, xl), rfl, (by unfold opBook; rw [hT11, hn12, zif_t c_248]; exact ⟨(congrArg (fun z => -1000100 - z) (hq18_R239 c_248)), ⟨((hfr_R239 0 (by decide)).trans hf0), ((hfr_R239 8 (by decide)).trans hf8), rfl, rfl, ((hfr_R239 29 (by decide)).trans hf29), ((hcr_R239 1 (by decide)).trans hc1), ((hcr_R239 2 (by decide)).trans hc2), ((hcr_R239 3 (by decide)).trans hc3), ((hcr_R239 4 (by decide)).trans hc4), ((hcr_R239 7 (by decide)).trans hc7), ((hcr_R239 11 (by decide)).trans hc11), ((hcr_R239 26 (by decide)).trans hc26), ((hcr_R239 27 (by decide)).trans hc27), ((hcr_R239 28 (by decide)).trans hc28)⟩, ⟨_, _, _, _, _, _, _, _, _, hq5_R239, ((hcr_R239 6 (by decide)).trans hc6), ((hcr_R239 9 (by decide)).trans hc9), ((hcr_R239 10 (by decide)).trans hc10), ((hcr_R239 24 (by decide)).trans hc24), ((hcr_R239 25 (by decide)).trans hc25), hc21, hc22, ((hfr_R239 23 (by decide)).trans hf23)⟩⟩), by rw [ht]; exact hP, hD⟩, hS.F ht⟩) hS.2.2 dX3_book_266
                · refine lv_aload_n hx hb dX3_book_208 rfl (lv_at hl 0 rfl) ?_
                  refine lv_iconst (v := nI 1) hx hb dX3_book_209 (by decide) ?_
                  have hle_210 := hS.1
                  refine va_callv (va_runV (As := [.int (nI 1)]) (rest := []) ⟨hx, hb, hml, hown, hts⟩ (m_X3_bad l g ad fi_193 cn_193 xl _ T n (pbk2 T n) (show PF T n (pbk2 T n) fi_193 cn_193 from ⟨hq13_R193, hq14_R193, hq15_R193, hq16_R193, hq17_R193, hq18_R193, hq20_R193, hq5_R193, hq12_R193, hq11_R193⟩) hO_R193 1 (by decide)) (cwV 1 hts (lw_V q1442 q1444 qs34 q69 q1445) rfl rfl rfl hdV_X3_bad ⟨Nat.le_of_ble_eq_true rfl, Nat.le_of_ble_eq_true rfl⟩) (zpreV hK hN (va_recv hK hP (ci := 3) (q0 := 0) rfl rfl) ⟨rfl, hP, hD.weaken (fun _ _ _ _ => trivial)⟩) rfl rfl hl.1 rfl (lv_room (Nat.le_of_ble_eq_true rfl)) dX3_book_210 ⟨Nat.le_of_ble_eq_true rfl, Nat.le_of_ble_eq_true rfl⟩) hS (fun q _ h => mA_le hS.1 q h) (mA_le hS.1) (fun u t H locs ht hvm hw_210 hB hzz hkk hS => ?_)
                  obtain ⟨hP, hD⟩ := hB
                  rw [ht] at hP
                  have hD := hD.weaken (fun _ _ _ h => mA_le hle_210 _ h)
                  obtain ⟨fi_213, cn_213, xl_213⟩ := u
                  obtain ⟨_, hPF_213, hO_213, hxl_213, hfr_213, hcr_213⟩ := hw_210
                  have hxl_213 : xl = xl_213 := hxl_213.symm
                  subst hxl_213
                  have hPF_213 : PF T n (pbad 1 (pbk2 T n)) fi_213 cn_213 := hPF_213
                  have hO_213 : PO T n (pbad 1 (pbk2 T n)) := hO_213
                  have ho__213 := hO_213
                  obtain ⟨ho1_213, _, _, ho4_213, ho16_213, hoF_213⟩ := ho__213
                  have he13_213 := tkE_le (T := T) ho1_213
                  have hk15_213 := tkK_le T n (pbad 1 (pbk2 T n)).1
                  obtain ⟨hq13_213, hq14_213, hq15_213, hq16_213, hq17_213, hq18_213, hq20_213, hq5_213, hq12_213, hq11_213⟩ := hPF_213
                  have hfr_213 : ∀ k, (k < 13 ∨ 20 < k ∨ k = 19) → fi_213 k = fi k := fun k hk => (hfr_213 k hk).trans (hfr_R193 k hk)
                  have hcr_213 : ∀ k, k ≠ 5 → cn_213 k = cn k := fun k hk => (hcr_213 k hk).trans (hcr_R193 k hk)
                  have hP : va_P g.1 zCL (mW g ad fi_213 cn_213 xl) _ := hP
                  have hD : va_D (mA ad s.heap.size) (mW g ad fi_213 cn_213 xl) := hD
                  have hPF_R213 : PF T n (pbk3 T n) fi_213 cn_213 := (by rw [show pbk3 T n = pbad 1 (pbk2 T n) from zif_f c_205]; exact ⟨hq13_213, hq14_213, hq15_213, hq16_213, hq17_213, hq18_213, hq20_213, hq5_213, hq12_213, hq11_213⟩)
                  have hO_R213 : PO T n (pbk3 T n) := (by rw [show pbk3 T n = pbad 1 (pbk2 T n) from zif_f c_205]; exact hO_213)
                  have ho__R213 := hO_R213
                  obtain ⟨ho1_R213, _, _, ho4_R213, ho16_R213, hoF_R213⟩ := ho__R213
                  have he13_R213 := tkE_le (T := T) ho1_R213
                  have hk15_R213 := tkK_le T n (pbk3 T n).1
                  obtain ⟨hq13_R213, hq14_R213, hq15_R213, hq16_R213, hq17_R213, hq18_R213, hq20_R213, hq5_R213, hq12_R213, hq11_R213⟩ := hPF_R213
                  have hfr_R213 := hfr_213
                  have hcr_R213 := hcr_213
                  refine lv_aload_n hx hb dX3_book_213 rfl (lv_at hl 0 rfl) ?_
                  refine va_get (D := g.1) (ci := 3) (v := .int (fi_213 17)) (C := RX3) (T := TX3) (N := 30) hx hb hts in_X3 hown hK hP 0 rfl rfl 17 (by decide) (hts _ q1314) (fun _ h9 => h9) rfl dX3_book_214 ?_
                  refine zti (hq17_R213) ?_
                  refine zi_ne (tgt := 239) hx hb (by omega) dX3_book_217 (by decide) (fun c_217 => ?_) (fun c_217 => ?_)
                  · have hPF_R239 : PF T n (pbk T n) fi_213 cn_213 := (by rw [show pbk T n = pbk3 T n from zif_same (pbad_id c_217)]; exact ⟨hq13_R213, hq14_R213, hq15_R213, hq16_R213, hq17_R213, hq18_R213, hq20_R213, hq5_R213, hq12_R213, hq11_R213⟩)
                    have hO_R239 : PO T n (pbk T n) := (by rw [show pbk T n = pbk3 T n from zif_same (pbad_id c_217)]; exact hO_R213)
                    have ho__R239 := hO_R239
                    obtain ⟨ho1_R239, _, _, ho4_R239, ho16_R239, hoF_R239⟩ := ho__R239
                    have he13_R239 := tkE_le (T := T) ho1_R239
                    have hk15_R239 := tkK_le T n (pbk T n).1
                    obtain ⟨hq13_R239, hq14_R239, hq15_R239, hq16_R239, hq17_R239, hq18_R239, hq20_R239, hq5_R239, hq12_R239, hq11_R239⟩ := hPF_R239
                    have hfr_R239 := hfr_R213
                    have hcr_R239 := hcr_R213
                    refine lv_aload_n hx hb dX3_book_239 rfl (lv_at hl 0 rfl) ?_
                    refine lv_iconst (v := nI 0) hx hb dX3_book_240 (by decide) ?_
                    refine va_put (D := g.1) (ci := 3) (v := .int (nI 0)) (ty := .int) (C := RX3) (T := TX3) (N := 30) hx hb hts in_X3 tyX3 tyX3_ok nmX3 hown hK hP hD hS 0 rfl rfl 12 (by decide) (hts _ q1309) (fun _ h9 => h9) rfl (by decide +kernel) rfl rfl (Nat.le_of_ble_eq_true rfl) dX3_book_241 (fun H locs hP hD hS => ?_)
                    have hP : va_P g.1 zCL (mW g ad (va_up fi_213 12 (nI 0)) cn_213 xl) _ := hP
                    have hD : va_D (mA ad s.heap.size) (mW g ad (va_up fi_213 12 (nI 0)) cn_213 xl) := hD
                    refine lv_aload_n hx hb dX3_book_244 rfl (lv_at hl 0 rfl) ?_
                    refine va_get (D := g.1) (ci := 3) (v := .int (fi_213 17)) (C := RX3) (T := TX3) (N := 30) hx hb hts in_X3 hown hK hP 0 rfl rfl 17 (by decide) (hts _ q1314) (fun _ h9 => h9) rfl dX3_book_245 ?_
                    refine zti (hq17_R239) ?_
                    refine zi_le (tgt := 267) hx hb (by omega) dX3_book_248 (by decide) (fun c_248 => ?_) (fun c_248 => ?_)
                    · refine lv_aload_n hx hb dX3_book_267 rfl (lv_at hl 0 rfl) ?_
                      refine lv_iconst (v := nI 0) hx hb dX3_book_268 (by decide) ?_
                      refine va_put (D := g.1) (ci := 3) (v := .int (nI 0)) (ty := .int) (C := RX3) (T := TX3) (N := 30) hx hb hts in_X3 tyX3 tyX3_ok nmX3 hown hK hP hD hS 0 rfl rfl 8 (by decide) (hts _ q1305) (fun _ h9 => h9) rfl (by decide +kernel) rfl rfl (Nat.le_of_ble_eq_true rfl) dX3_book_269 (fun H locs hP hD hS => ?_)
                      have hP : va_P g.1 zCL (mW g ad (va_up (va_up fi_213 8 (nI 0)) 12 (nI 0)) cn_213 xl) _ := hP
                      have hD : va_D (mA ad s.heap.size) (mW g ad (va_up (va_up fi_213 8 (nI 0)) 12 (nI 0)) cn_213 xl) := hD
                      refine lv_iconst (v := nI 0) hx hb dX3_book_272 (by decide) ?_
                      refine lv_istore_n (lv' := [(1, .int (nI 0)), (0, .ref (ad 0))]) hx hb dX3_book_273 rfl hl (by decide) rfl (fun ls hl => ?_)
                      refine zloopW (head := 274) (44) (fun k H locs cells slots ls => cells = 0 ∧ slots = 0 ∧ va_P g.1 zCL (mW g ad (va_up (va_up fi_213 8 (nI 0)) 12 (nI 0)) (va_up cn_213 4 (nF (va_cpy (pbk T n).2.2.2.2 (S.2.1 4) 0 0 k))) xl) H ∧ va_D (mA ad s.heap.size) (mW g ad (va_up (va_up fi_213 8 (nI 0)) 12 (nI 0)) (va_up cn_213 4 (nF (va_cpy (pbk T n).2.2.2.2 (S.2.1 4) 0 0 k))) xl) ∧ va_S (mA ad s.heap.size) s.heap H locs ∧ lv_has ls 2 [(0, .ref (ad 0)), (1, .int (nI k))]) (fun k hv_k ih_274 H locs cells slots ls hI => ?_) 0 (Nat.zero_le _) ?_
                      · obtain ⟨rfl, rfl, hP, hD, hS, hl⟩ := hI
                        refine lv_iload_n hx hb dX3_book_274 rfl (lv_at hl 1 rfl) ?_
                        refine lv_bipush (v := nI 44) hx hb dX3_book_275 (by decide) ?_
                        refine zc_ge (tgt := 298) hx hb (by omega) (by omega) dX3_book_277 (by decide) (fun c_277 => ?_) (fun c_277 => ?_)
                        · obtain rfl : 44 = k := by omega
                          obtain ⟨hP, hD⟩ := hP.exi hD 4 (f' := nF (pbk T n).2.2.2.2) rfl (fun j hj => by show nI (va_cpy _ _ 0 0 44 j) = nI ((pbk T n).2.2.2.2 j); rw [zcpy_in (by omega) (by omega)]; rw [Nat.zero_add, Nat.sub_zero])
                          have hP : va_P g.1 zCL (mW g ad (va_up (va_up fi_213 8 (nI 0)) 12 (nI 0)) (va_up cn_213 4 (nF (pbk T n).2.2.2.2)) xl) _ := hP
                          have hD : va_D (mA ad s.heap.size) (mW g ad (va_up (va_up fi_213 8 (nI 0)) 12 (nI 0)) (va_up cn_213 4 (nF (pbk T n).2.2.2.2)) xl) := hD
                          refine lv_aload_n hx hb dX3_book_298 rfl (lv_at hl 0 rfl) ?_
                          refine va_get (D := g.1) (ci := 3) (v := .ref (ad 4)) (C := RX3) (T := TX3) (N := 30) hx hb hts in_X3 hown hK hP 0 rfl rfl 4 (by decide) (hts _ q1301) (fun _ h9 => h9) rfl dX3_book_299 ?_
                          refine lv_iconst (v := nI 0) hx hb dX3_book_302 (by decide) ?_
                          refine zald hx hb hK hP 4 0 rfl rfl (j := 0) (by omega) (by decide) dX3_book_303 ?_
                          refine zti (show (nF ((pbk T n).2.2.2.2)) 0 = nI (((pbk T n).2.2.2.2) 0) from rfl) ?_
                          exact W.iret (v := nI (((pbk T n).2.2.2.2) 0)) hx hb hr (fun t ht hW => ⟨⟨nI (((pbk T n).2.2.2.2) 0), (va_up (va_up fi_213 8 (nI 0)) 12 (nI 0), va_up cn_213 4 (nF (pbk T n).2.2.2.2), xl), rfl, (by unfold opBook; rw [hT11, hn12, zif_f c_248]; exact ⟨rfl, ⟨((hfr_R239 0 (by decide)).trans hf0), rfl, rfl, ((hfr_R239 19 (by decide)).trans hf19), ((hfr_R239 29 (by decide)).trans hf29), ((hcr_R239 1 (by decide)).trans hc1), ((hcr_R239 2 (by decide)).trans hc2), ((hcr_R239 3 (by decide)).trans hc3), rfl, ((hcr_R239 7 (by decide)).trans hc7), ((hcr_R239 11 (by decide)).trans hc11), ((hcr_R239 26 (by decide)).trans hc26), ((hcr_R239 27 (by decide)).trans hc27), ((hcr_R239 28 (by decide)).trans hc28)⟩, ⟨_, _, _, _, _, _, _, _, _, hq5_R239, ((hcr_R239 6 (by decide)).trans hc6), ((hcr_R239 9 (by decide)).trans hc9), ((hcr_R239 10 (by decide)).trans hc10), ((hcr_R239 24 (by decide)).trans hc24), ((hcr_R239 25 (by decide)).trans hc25), hc21, hc22, ((hfr_R239 23 (by decide)).trans hf23)⟩⟩), by rw [ht]; exact hP, hD⟩, hS.F ht⟩) hS.2.2 dX3_book_304
                        · refine lv_aload_n hx hb dX3_book_280 rfl (lv_at hl 0 rfl) ?_
                          refine va_get (D := g.1) (ci := 3) (v := .ref (ad 4)) (C := RX3) (T := TX3) (N := 30) hx hb hts in_X3 hown hK hP 0 rfl rfl 4 (by decide) (hts _ q1301) (fun _ h9 => h9) rfl dX3_book_281 ?_
                          refine lv_iload_n hx hb dX3_book_284 rfl (lv_at hl 1 rfl) ?_
                          refine lv_aload_n hx hb dX3_book_285 rfl (lv_at hl 0 rfl) ?_
                          refine va_get (D := g.1) (ci := 3) (v := .ref (ad 5)) (C := RX3) (T := TX3) (N := 30) hx hb hts in_X3 hown hK hP 0 rfl rfl 5 (by decide) (hts _ q1302) (fun _ h9 => h9) rfl dX3_book_286 ?_
                          refine lv_iload_n hx hb dX3_book_289 rfl (lv_at hl 1 rfl) ?_
                          refine zald hx hb hK hP 5 0 rfl rfl (j := k) (by omega) (by decide) dX3_book_290 ?_
                          refine zti (congrFun hq5_R239 _) ?_
                          refine zti (show (nF ((pbk T n).2.2.2.2)) k = nI (((pbk T n).2.2.2.2) k) from rfl) ?_
                          refine zast (f := nF (va_cpy (pbk T n).2.2.2.2 (S.2.1 4) 0 0 k)) hx hb hK hP hD hS 4 0 rfl rfl (j := k) (by omega) (by decide) dX3_book_291 (fun H locs hP hD hS => ?_)
                          rw [nF_up] at hP hD
                          have hP : va_P g.1 zCL (mW g ad (va_up (va_up fi_213 8 (nI 0)) 12 (nI 0)) (va_up cn_213 4 (nF (va_up (va_cpy (pbk T n).2.2.2.2 (S.2.1 4) 0 0 k) k (((pbk T n).2.2.2.2) k)))) xl) _ := hP
                          have hD : va_D (mA ad s.heap.size) (mW g ad (va_up (va_up fi_213 8 (nI 0)) 12 (nI 0)) (va_up cn_213 4 (nF (va_up (va_cpy (pbk T n).2.2.2.2 (S.2.1 4) 0 0 k) k (((pbk T n).2.2.2.2) k)))) xl) := hD
                          refine lv_iinc (v := nI (k + 1)) (lv' := [(1, .int (nI (k + 1))), (0, .ref (ad 0))]) hx hb dX3_book_292 hl (k := 1) rfl (nI_add k 1) (by decide) rfl (fun ls hl => ?_)
                          refine lv_goto (tgt := 274) hx hb dX3_book_295 (by decide) ?_
                          rw [show va_up (va_cpy (pbk T n).2.2.2.2 (S.2.1 4) 0 0 k) k ((pbk T n).2.2.2.2 k) = va_cpy (pbk T n).2.2.2.2 (S.2.1 4) 0 0 (k + 1) by have h9 := zcpy_s (pbk T n).2.2.2.2 (S.2.1 4) 0 0 k; rw [Nat.zero_add] at h9; exact h9] at hP hD
                          exact ih_274 (by omega) _ _ _ _ _ ⟨rfl, rfl, hP, hD, hS, lv_sub hl [1, 0] rfl⟩
                      · rw [mW_up (cn := cn_213) (k := 4) (f := nF (va_cpy (pbk T n).2.2.2.2 (S.2.1 4) 0 0 0)) (by rw [zcpy_0]; exact (hcr_R239 4 (by decide)).trans hc4)] at hP
                        rw [mW_up (cn := cn_213) (k := 4) (f := nF (va_cpy (pbk T n).2.2.2.2 (S.2.1 4) 0 0 0)) (by rw [zcpy_0]; exact (hcr_R239 4 (by decide)).trans hc4)] at hD
                        have hP : va_P g.1 zCL (mW g ad (va_up (va_up fi_213 8 (nI 0)) 12 (nI 0)) (va_up cn_213 4 (nF (va_cpy (pbk T n).2.2.2.2 (S.2.1 4) 0 0 0))) xl) _ := hP
                        have hD : va_D (mA ad s.heap.size) (mW g ad (va_up (va_up fi_213 8 (nI 0)) 12 (nI 0)) (va_up cn_213 4 (nF (va_cpy (pbk T n).2.2.2.2 (S.2.1 4) 0 0 0))) xl) := hD
                        exact ⟨rfl, rfl, hP, hD, hS, lv_sub hl [1, 0] rfl⟩
                    · refine lv_aload_n hx hb dX3_book_251 rfl (lv_at hl 0 rfl) ?_
                      refine lv_aload_n hx hb dX3_book_252 rfl (lv_at hl 0 rfl) ?_
                      refine va_get (D := g.1) (ci := 3) (v := .int (fi_213 17)) (C := RX3) (T := TX3) (N := 30) hx hb hts in_X3 hown hK hP 0 rfl rfl 17 (by decide) (hts _ q1314) (fun _ h9 => h9) rfl dX3_book_253 ?_
                      refine zti (hq17_R239) ?_
                      refine va_put (D := g.1) (ci := 3) (v := .int (nI ((pbk T n).2.1))) (ty := .int) (C := RX3) (T := TX3) (N := 30) hx hb hts in_X3 tyX3 tyX3_ok nmX3 hown hK hP hD hS 0 rfl rfl 19 (by decide) (hts _ q1316) (fun _ h9 => h9) rfl (by decide +kernel) rfl rfl (Nat.le_of_ble_eq_true rfl) dX3_book_256 (fun H locs hP hD hS => ?_)
                      have hP : va_P g.1 zCL (mW g ad (va_up (va_up fi_213 12 (nI 0)) 19 (nI ((pbk T n).2.1))) cn_213 xl) _ := hP
                      have hD : va_D (mA ad s.heap.size) (mW g ad (va_up (va_up fi_213 12 (nI 0)) 19 (nI ((pbk T n).2.1))) cn_213 xl) := hD
                      refine lv_ldc hx hb hown (hts _ q1466) dX3_book_259 ?_
                      refine lv_aload_n hx hb dX3_book_261 rfl (lv_at hl 0 rfl) ?_
                      refine va_get (D := g.1) (ci := 3) (v := .int (fi_213 18)) (C := RX3) (T := TX3) (N := 30) hx hb hts in_X3 hown hK hP 0 rfl rfl 18 (by decide) (hts _ q1315) (fun _ h9 => h9) rfl dX3_book_262 ?_
                      refine lv_isub hx hb dX3_book_265 ?_
                      exact W.iret (v := (-1000100) - (fi_213 18)) hx hb hr (fun t ht hW => ⟨⟨(-1000100) - (fi_213 18), (va_up (va_up fi_213 12 (nI 0)) 19 (nI ((pbk T n).2.1)), cn_213, xl), rfl, (by unfold opBook; rw [hT11, hn12, zif_t c_248]; exact ⟨(congrArg (fun z => -1000100 - z) (hq18_R239 c_248)), ⟨((hfr_R239 0 (by decide)).trans hf0), ((hfr_R239 8 (by decide)).trans hf8), rfl, rfl, ((hfr_R239 29 (by decide)).trans hf29), ((hcr_R239 1 (by decide)).trans hc1), ((hcr_R239 2 (by decide)).trans hc2), ((hcr_R239 3 (by decide)).trans hc3), ((hcr_R239 4 (by decide)).trans hc4), ((hcr_R239 7 (by decide)).trans hc7), ((hcr_R239 11 (by decide)).trans hc11), ((hcr_R239 26 (by decide)).trans hc26), ((hcr_R239 27 (by decide)).trans hc27), ((hcr_R239 28 (by decide)).trans hc28)⟩, ⟨_, _, _, _, _, _, _, _, _, hq5_R239, ((hcr_R239 6 (by decide)).trans hc6), ((hcr_R239 9 (by decide)).trans hc9), ((hcr_R239 10 (by decide)).trans hc10), ((hcr_R239 24 (by decide)).trans hc24), ((hcr_R239 25 (by decide)).trans hc25), hc21, hc22, ((hfr_R239 23 (by decide)).trans hf23)⟩⟩), by rw [ht]; exact hP, hD⟩, hS.F ht⟩) hS.2.2 dX3_book_266
                  · refine lv_aload_n hx hb dX3_book_220 rfl (lv_at hl 0 rfl) ?_
                    refine va_get (D := g.1) (ci := 3) (v := .int (fi_213 20)) (C := RX3) (T := TX3) (N := 30) hx hb hts in_X3 hown hK hP 0 rfl rfl 20 (by decide) (hts _ q1317) (fun _ h9 => h9) rfl dX3_book_221 ?_
                    refine zti (hq20_R213) ?_
                    refine lv_aload_n hx hb dX3_book_224 rfl (lv_at hl 0 rfl) ?_
                    refine va_get (D := g.1) (ci := 3) (v := .ref (ad 5)) (C := RX3) (T := TX3) (N := 30) hx hb hts in_X3 hown hK hP 0 rfl rfl 5 (by decide) (hts _ q1302) (fun _ h9 => h9) rfl dX3_book_225 ?_
                    refine lv_iconst (v := nI 0) hx hb dX3_book_228 (by decide) ?_
                    refine zald hx hb hK hP 5 0 rfl rfl (j := 0) (by omega) (by decide) dX3_book_229 ?_
                    refine zti (congrFun hq5_R213 _) ?_
                    refine zti (show (nF ((pbk3 T n).2.2.2.2)) 0 = nI (((pbk3 T n).2.2.2.2) 0) from rfl) ?_
                    refine lv_ishr hx hb dX3_book_230 ?_
                    refine zti (show _ = nI ((pbk3 T n).2.2.2.1 / 2 ^ (pbk3 T n).2.2.2.2 0) from (zshr (by omega) (by omega))) ?_
                    have hdl : (pbk3 T n).2.2.2.1 / 2 ^ (pbk3 T n).2.2.2.2 0 ≤ (pbk3 T n).2.2.2.1 := Nat.div_le_self _ _
                    refine zi_eq (tgt := 239) hx hb (by omega) dX3_book_231 (by decide) (fun c_231 => ?_) (fun c_231 => ?_)
                    · have hPF_R239 : PF T n (pbk T n) fi_213 cn_213 := (by rw [show pbk T n = pbk3 T n from zif_t c_231]; exact ⟨hq13_R213, hq14_R213, hq15_R213, hq16_R213, hq17_R213, hq18_R213, hq20_R213, hq5_R213, hq12_R213, hq11_R213⟩)
                      have hO_R239 : PO T n (pbk T n) := (by rw [show pbk T n = pbk3 T n from zif_t c_231]; exact hO_R213)
                      have ho__R239 := hO_R239
                      obtain ⟨ho1_R239, _, _, ho4_R239, ho16_R239, hoF_R239⟩ := ho__R239
                      have he13_R239 := tkE_le (T := T) ho1_R239
                      have hk15_R239 := tkK_le T n (pbk T n).1
                      obtain ⟨hq13_R239, hq14_R239, hq15_R239, hq16_R239, hq17_R239, hq18_R239, hq20_R239, hq5_R239, hq12_R239, hq11_R239⟩ := hPF_R239
                      have hfr_R239 := hfr_R213
                      have hcr_R239 := hcr_R213
                      refine lv_aload_n hx hb dX3_book_239 rfl (lv_at hl 0 rfl) ?_
                      refine lv_iconst (v := nI 0) hx hb dX3_book_240 (by decide) ?_
                      refine va_put (D := g.1) (ci := 3) (v := .int (nI 0)) (ty := .int) (C := RX3) (T := TX3) (N := 30) hx hb hts in_X3 tyX3 tyX3_ok nmX3 hown hK hP hD hS 0 rfl rfl 12 (by decide) (hts _ q1309) (fun _ h9 => h9) rfl (by decide +kernel) rfl rfl (Nat.le_of_ble_eq_true rfl) dX3_book_241 (fun H locs hP hD hS => ?_)
                      have hP : va_P g.1 zCL (mW g ad (va_up fi_213 12 (nI 0)) cn_213 xl) _ := hP
                      have hD : va_D (mA ad s.heap.size) (mW g ad (va_up fi_213 12 (nI 0)) cn_213 xl) := hD
                      refine lv_aload_n hx hb dX3_book_244 rfl (lv_at hl 0 rfl) ?_
                      refine va_get (D := g.1) (ci := 3) (v := .int (fi_213 17)) (C := RX3) (T := TX3) (N := 30) hx hb hts in_X3 hown hK hP 0 rfl rfl 17 (by decide) (hts _ q1314) (fun _ h9 => h9) rfl dX3_book_245 ?_
                      refine zti (hq17_R239) ?_
                      refine zi_le (tgt := 267) hx hb (by omega) dX3_book_248 (by decide) (fun c_248 => ?_) (fun c_248 => ?_)
                      · refine lv_aload_n hx hb dX3_book_267 rfl (lv_at hl 0 rfl) ?_
                        refine lv_iconst (v := nI 0) hx hb dX3_book_268 (by decide) ?_
                        refine va_put (D := g.1) (ci := 3) (v := .int (nI 0)) (ty := .int) (C := RX3) (T := TX3) (N := 30) hx hb hts in_X3 tyX3 tyX3_ok nmX3 hown hK hP hD hS 0 rfl rfl 8 (by decide) (hts _ q1305) (fun _ h9 => h9) rfl (by decide +kernel) rfl rfl (Nat.le_of_ble_eq_true rfl) dX3_book_269 (fun H locs hP hD hS => ?_)
                        have hP : va_P g.1 zCL (mW g ad (va_up (va_up fi_213 8 (nI 0)) 12 (nI 0)) cn_213 xl) _ := hP
                        have hD : va_D (mA ad s.heap.size) (mW g ad (va_up (va_up fi_213 8 (nI 0)) 12 (nI 0)) cn_213 xl) := hD
                        refine lv_iconst (v := nI 0) hx hb dX3_book_272 (by decide) ?_
                        refine lv_istore_n (lv' := [(1, .int (nI 0)), (0, .ref (ad 0))]) hx hb dX3_book_273 rfl hl (by decide) rfl (fun ls hl => ?_)
                        refine zloopW (head := 274) (44) (fun k H locs cells slots ls => cells = 0 ∧ slots = 0 ∧ va_P g.1 zCL (mW g ad (va_up (va_up fi_213 8 (nI 0)) 12 (nI 0)) (va_up cn_213 4 (nF (va_cpy (pbk T n).2.2.2.2 (S.2.1 4) 0 0 k))) xl) H ∧ va_D (mA ad s.heap.size) (mW g ad (va_up (va_up fi_213 8 (nI 0)) 12 (nI 0)) (va_up cn_213 4 (nF (va_cpy (pbk T n).2.2.2.2 (S.2.1 4) 0 0 k))) xl) ∧ va_S (mA ad s.heap.size) s.heap H locs ∧ lv_has ls 2 [(0, .ref (ad 0)), (1, .int (nI k))]) (fun k hv_k ih_274 H locs cells slots ls hI => ?_) 0 (Nat.zero_le _) ?_
                        · obtain ⟨rfl, rfl, hP, hD, hS, hl⟩ := hI
                          refine lv_iload_n hx hb dX3_book_274 rfl (lv_at hl 1 rfl) ?_
                          refine lv_bipush (v := nI 44) hx hb dX3_book_275 (by decide) ?_
                          refine zc_ge (tgt := 298) hx hb (by omega) (by omega) dX3_book_277 (by decide) (fun c_277 => ?_) (fun c_277 => ?_)
                          · obtain rfl : 44 = k := by omega
                            obtain ⟨hP, hD⟩ := hP.exi hD 4 (f' := nF (pbk T n).2.2.2.2) rfl (fun j hj => by show nI (va_cpy _ _ 0 0 44 j) = nI ((pbk T n).2.2.2.2 j); rw [zcpy_in (by omega) (by omega)]; rw [Nat.zero_add, Nat.sub_zero])
                            have hP : va_P g.1 zCL (mW g ad (va_up (va_up fi_213 8 (nI 0)) 12 (nI 0)) (va_up cn_213 4 (nF (pbk T n).2.2.2.2)) xl) _ := hP
                            have hD : va_D (mA ad s.heap.size) (mW g ad (va_up (va_up fi_213 8 (nI 0)) 12 (nI 0)) (va_up cn_213 4 (nF (pbk T n).2.2.2.2)) xl) := hD
                            refine lv_aload_n hx hb dX3_book_298 rfl (lv_at hl 0 rfl) ?_
                            refine va_get (D := g.1) (ci := 3) (v := .ref (ad 4)) (C := RX3) (T := TX3) (N := 30) hx hb hts in_X3 hown hK hP 0 rfl rfl 4 (by decide) (hts _ q1301) (fun _ h9 => h9) rfl dX3_book_299 ?_
                            refine lv_iconst (v := nI 0) hx hb dX3_book_302 (by decide) ?_
                            refine zald hx hb hK hP 4 0 rfl rfl (j := 0) (by omega) (by decide) dX3_book_303 ?_
                            refine zti (show (nF ((pbk T n).2.2.2.2)) 0 = nI (((pbk T n).2.2.2.2) 0) from rfl) ?_
                            exact W.iret (v := nI (((pbk T n).2.2.2.2) 0)) hx hb hr (fun t ht hW => ⟨⟨nI (((pbk T n).2.2.2.2) 0), (va_up (va_up fi_213 8 (nI 0)) 12 (nI 0), va_up cn_213 4 (nF (pbk T n).2.2.2.2), xl), rfl, (by unfold opBook; rw [hT11, hn12, zif_f c_248]; exact ⟨rfl, ⟨((hfr_R239 0 (by decide)).trans hf0), rfl, rfl, ((hfr_R239 19 (by decide)).trans hf19), ((hfr_R239 29 (by decide)).trans hf29), ((hcr_R239 1 (by decide)).trans hc1), ((hcr_R239 2 (by decide)).trans hc2), ((hcr_R239 3 (by decide)).trans hc3), rfl, ((hcr_R239 7 (by decide)).trans hc7), ((hcr_R239 11 (by decide)).trans hc11), ((hcr_R239 26 (by decide)).trans hc26), ((hcr_R239 27 (by decide)).trans hc27), ((hcr_R239 28 (by decide)).trans hc28)⟩, ⟨_, _, _, _, _, _, _, _, _, hq5_R239, ((hcr_R239 6 (by decide)).trans hc6), ((hcr_R239 9 (by decide)).trans hc9), ((hcr_R239 10 (by decide)).trans hc10), ((hcr_R239 24 (by decide)).trans hc24), ((hcr_R239 25 (by decide)).trans hc25), hc21, hc22, ((hfr_R239 23 (by decide)).trans hf23)⟩⟩), by rw [ht]; exact hP, hD⟩, hS.F ht⟩) hS.2.2 dX3_book_304
                          · refine lv_aload_n hx hb dX3_book_280 rfl (lv_at hl 0 rfl) ?_
                            refine va_get (D := g.1) (ci := 3) (v := .ref (ad 4)) (C := RX3) (T := TX3) (N := 30) hx hb hts in_X3 hown hK hP 0 rfl rfl 4 (by decide) (hts _ q1301) (fun _ h9 => h9) rfl dX3_book_281 ?_
                            refine lv_iload_n hx hb dX3_book_284 rfl (lv_at hl 1 rfl) ?_
                            refine lv_aload_n hx hb dX3_book_285 rfl (lv_at hl 0 rfl) ?_
                            refine va_get (D := g.1) (ci := 3) (v := .ref (ad 5)) (C := RX3) (T := TX3) (N := 30) hx hb hts in_X3 hown hK hP 0 rfl rfl 5 (by decide) (hts _ q1302) (fun _ h9 => h9) rfl dX3_book_286 ?_
                            refine lv_iload_n hx hb dX3_book_289 rfl (lv_at hl 1 rfl) ?_
                            refine zald hx hb hK hP 5 0 rfl rfl (j := k) (by omega) (by decide) dX3_book_290 ?_
                            refine zti (congrFun hq5_R239 _) ?_
                            refine zti (show (nF ((pbk T n).2.2.2.2)) k = nI (((pbk T n).2.2.2.2) k) from rfl) ?_
                            refine zast (f := nF (va_cpy (pbk T n).2.2.2.2 (S.2.1 4) 0 0 k)) hx hb hK hP hD hS 4 0 rfl rfl (j := k) (by omega) (by decide) dX3_book_291 (fun H locs hP hD hS => ?_)
                            rw [nF_up] at hP hD
                            have hP : va_P g.1 zCL (mW g ad (va_up (va_up fi_213 8 (nI 0)) 12 (nI 0)) (va_up cn_213 4 (nF (va_up (va_cpy (pbk T n).2.2.2.2 (S.2.1 4) 0 0 k) k (((pbk T n).2.2.2.2) k)))) xl) _ := hP
                            have hD : va_D (mA ad s.heap.size) (mW g ad (va_up (va_up fi_213 8 (nI 0)) 12 (nI 0)) (va_up cn_213 4 (nF (va_up (va_cpy (pbk T n).2.2.2.2 (S.2.1 4) 0 0 k) k (((pbk T n).2.2.2.2) k)))) xl) := hD
                            refine lv_iinc (v := nI (k + 1)) (lv' := [(1, .int (nI (k + 1))), (0, .ref (ad 0))]) hx hb dX3_book_292 hl (k := 1) rfl (nI_add k 1) (by decide) rfl (fun ls hl => ?_)
                            refine lv_goto (tgt := 274) hx hb dX3_book_295 (by decide) ?_
                            rw [show va_up (va_cpy (pbk T n).2.2.2.2 (S.2.1 4) 0 0 k) k ((pbk T n).2.2.2.2 k) = va_cpy (pbk T n).2.2.2.2 (S.2.1 4) 0 0 (k + 1) by have h9 := zcpy_s (pbk T n).2.2.2.2 (S.2.1 4) 0 0 k; rw [Nat.zero_add] at h9; exact h9] at hP hD
                            exact ih_274 (by omega) _ _ _ _ _ ⟨rfl, rfl, hP, hD, hS, lv_sub hl [1, 0] rfl⟩
                        · rw [mW_up (cn := cn_213) (k := 4) (f := nF (va_cpy (pbk T n).2.2.2.2 (S.2.1 4) 0 0 0)) (by rw [zcpy_0]; exact (hcr_R239 4 (by decide)).trans hc4)] at hP
                          rw [mW_up (cn := cn_213) (k := 4) (f := nF (va_cpy (pbk T n).2.2.2.2 (S.2.1 4) 0 0 0)) (by rw [zcpy_0]; exact (hcr_R239 4 (by decide)).trans hc4)] at hD
                          have hP : va_P g.1 zCL (mW g ad (va_up (va_up fi_213 8 (nI 0)) 12 (nI 0)) (va_up cn_213 4 (nF (va_cpy (pbk T n).2.2.2.2 (S.2.1 4) 0 0 0))) xl) _ := hP
                          have hD : va_D (mA ad s.heap.size) (mW g ad (va_up (va_up fi_213 8 (nI 0)) 12 (nI 0)) (va_up cn_213 4 (nF (va_cpy (pbk T n).2.2.2.2 (S.2.1 4) 0 0 0))) xl) := hD
                          exact ⟨rfl, rfl, hP, hD, hS, lv_sub hl [1, 0] rfl⟩
                      · refine lv_aload_n hx hb dX3_book_251 rfl (lv_at hl 0 rfl) ?_
                        refine lv_aload_n hx hb dX3_book_252 rfl (lv_at hl 0 rfl) ?_
                        refine va_get (D := g.1) (ci := 3) (v := .int (fi_213 17)) (C := RX3) (T := TX3) (N := 30) hx hb hts in_X3 hown hK hP 0 rfl rfl 17 (by decide) (hts _ q1314) (fun _ h9 => h9) rfl dX3_book_253 ?_
                        refine zti (hq17_R239) ?_
                        refine va_put (D := g.1) (ci := 3) (v := .int (nI ((pbk T n).2.1))) (ty := .int) (C := RX3) (T := TX3) (N := 30) hx hb hts in_X3 tyX3 tyX3_ok nmX3 hown hK hP hD hS 0 rfl rfl 19 (by decide) (hts _ q1316) (fun _ h9 => h9) rfl (by decide +kernel) rfl rfl (Nat.le_of_ble_eq_true rfl) dX3_book_256 (fun H locs hP hD hS => ?_)
                        have hP : va_P g.1 zCL (mW g ad (va_up (va_up fi_213 12 (nI 0)) 19 (nI ((pbk T n).2.1))) cn_213 xl) _ := hP
                        have hD : va_D (mA ad s.heap.size) (mW g ad (va_up (va_up fi_213 12 (nI 0)) 19 (nI ((pbk T n).2.1))) cn_213 xl) := hD
                        refine lv_ldc hx hb hown (hts _ q1466) dX3_book_259 ?_
                        refine lv_aload_n hx hb dX3_book_261 rfl (lv_at hl 0 rfl) ?_
                        refine va_get (D := g.1) (ci := 3) (v := .int (fi_213 18)) (C := RX3) (T := TX3) (N := 30) hx hb hts in_X3 hown hK hP 0 rfl rfl 18 (by decide) (hts _ q1315) (fun _ h9 => h9) rfl dX3_book_262 ?_
                        refine lv_isub hx hb dX3_book_265 ?_
                        exact W.iret (v := (-1000100) - (fi_213 18)) hx hb hr (fun t ht hW => ⟨⟨(-1000100) - (fi_213 18), (va_up (va_up fi_213 12 (nI 0)) 19 (nI ((pbk T n).2.1)), cn_213, xl), rfl, (by unfold opBook; rw [hT11, hn12, zif_t c_248]; exact ⟨(congrArg (fun z => -1000100 - z) (hq18_R239 c_248)), ⟨((hfr_R239 0 (by decide)).trans hf0), ((hfr_R239 8 (by decide)).trans hf8), rfl, rfl, ((hfr_R239 29 (by decide)).trans hf29), ((hcr_R239 1 (by decide)).trans hc1), ((hcr_R239 2 (by decide)).trans hc2), ((hcr_R239 3 (by decide)).trans hc3), ((hcr_R239 4 (by decide)).trans hc4), ((hcr_R239 7 (by decide)).trans hc7), ((hcr_R239 11 (by decide)).trans hc11), ((hcr_R239 26 (by decide)).trans hc26), ((hcr_R239 27 (by decide)).trans hc27), ((hcr_R239 28 (by decide)).trans hc28)⟩, ⟨_, _, _, _, _, _, _, _, _, hq5_R239, ((hcr_R239 6 (by decide)).trans hc6), ((hcr_R239 9 (by decide)).trans hc9), ((hcr_R239 10 (by decide)).trans hc10), ((hcr_R239 24 (by decide)).trans hc24), ((hcr_R239 25 (by decide)).trans hc25), hc21, hc22, ((hfr_R239 23 (by decide)).trans hf23)⟩⟩), by rw [ht]; exact hP, hD⟩, hS.F ht⟩) hS.2.2 dX3_book_266
                    · refine lv_aload_n hx hb dX3_book_234 rfl (lv_at hl 0 rfl) ?_
                      refine lv_iconst (v := nI 4) hx hb dX3_book_235 (by decide) ?_
                      have hle_236 := hS.1
                      refine va_callv (va_runV (As := [.int (nI 4)]) (rest := []) ⟨hx, hb, hml, hown, hts⟩ (m_X3_bad l g ad fi_213 cn_213 xl _ T n (pbk3 T n) (show PF T n (pbk3 T n) fi_213 cn_213 from ⟨hq13_R213, hq14_R213, hq15_R213, hq16_R213, hq17_R213, hq18_R213, hq20_R213, hq5_R213, hq12_R213, hq11_R213⟩) hO_R213 4 (by decide)) (cwV 1 hts (lw_V q1442 q1444 qs34 q69 q1445) rfl rfl rfl hdV_X3_bad ⟨Nat.le_of_ble_eq_true rfl, Nat.le_of_ble_eq_true rfl⟩) (zpreV hK hN (va_recv hK hP (ci := 3) (q0 := 0) rfl rfl) ⟨rfl, hP, hD.weaken (fun _ _ _ _ => trivial)⟩) rfl rfl hl.1 rfl (lv_room (Nat.le_of_ble_eq_true rfl)) dX3_book_236 ⟨Nat.le_of_ble_eq_true rfl, Nat.le_of_ble_eq_true rfl⟩) hS (fun q _ h => mA_le hS.1 q h) (mA_le hS.1) (fun u t H locs ht hvm hw_236 hB hzz hkk hS => ?_)
                      obtain ⟨hP, hD⟩ := hB
                      rw [ht] at hP
                      have hD := hD.weaken (fun _ _ _ h => mA_le hle_236 _ h)
                      obtain ⟨fi_239, cn_239, xl_239⟩ := u
                      obtain ⟨_, hPF_239, hO_239, hxl_239, hfr_239, hcr_239⟩ := hw_236
                      have hxl_239 : xl = xl_239 := hxl_239.symm
                      subst hxl_239
                      have hPF_239 : PF T n (pbad 4 (pbk3 T n)) fi_239 cn_239 := hPF_239
                      have hO_239 : PO T n (pbad 4 (pbk3 T n)) := hO_239
                      have ho__239 := hO_239
                      obtain ⟨ho1_239, _, _, ho4_239, ho16_239, hoF_239⟩ := ho__239
                      have he13_239 := tkE_le (T := T) ho1_239
                      have hk15_239 := tkK_le T n (pbad 4 (pbk3 T n)).1
                      obtain ⟨hq13_239, hq14_239, hq15_239, hq16_239, hq17_239, hq18_239, hq20_239, hq5_239, hq12_239, hq11_239⟩ := hPF_239
                      have hfr_239 : ∀ k, (k < 13 ∨ 20 < k ∨ k = 19) → fi_239 k = fi k := fun k hk => (hfr_239 k hk).trans (hfr_R213 k hk)
                      have hcr_239 : ∀ k, k ≠ 5 → cn_239 k = cn k := fun k hk => (hcr_239 k hk).trans (hcr_R213 k hk)
                      have hP : va_P g.1 zCL (mW g ad fi_239 cn_239 xl) _ := hP
                      have hD : va_D (mA ad s.heap.size) (mW g ad fi_239 cn_239 xl) := hD
                      have hPF_R239 : PF T n (pbk T n) fi_239 cn_239 := (by rw [show pbk T n = pbad 4 (pbk3 T n) from zif_f c_231]; exact ⟨hq13_239, hq14_239, hq15_239, hq16_239, hq17_239, hq18_239, hq20_239, hq5_239, hq12_239, hq11_239⟩)
                      have hO_R239 : PO T n (pbk T n) := (by rw [show pbk T n = pbad 4 (pbk3 T n) from zif_f c_231]; exact hO_239)
                      have ho__R239 := hO_R239
                      obtain ⟨ho1_R239, _, _, ho4_R239, ho16_R239, hoF_R239⟩ := ho__R239
                      have he13_R239 := tkE_le (T := T) ho1_R239
                      have hk15_R239 := tkK_le T n (pbk T n).1
                      obtain ⟨hq13_R239, hq14_R239, hq15_R239, hq16_R239, hq17_R239, hq18_R239, hq20_R239, hq5_R239, hq12_R239, hq11_R239⟩ := hPF_R239
                      have hfr_R239 := hfr_239
                      have hcr_R239 := hcr_239
                      refine lv_aload_n hx hb dX3_book_239 rfl (lv_at hl 0 rfl) ?_
                      refine lv_iconst (v := nI 0) hx hb dX3_book_240 (by decide) ?_
                      refine va_put (D := g.1) (ci := 3) (v := .int (nI 0)) (ty := .int) (C := RX3) (T := TX3) (N := 30) hx hb hts in_X3 tyX3 tyX3_ok nmX3 hown hK hP hD hS 0 rfl rfl 12 (by decide) (hts _ q1309) (fun _ h9 => h9) rfl (by decide +kernel) rfl rfl (Nat.le_of_ble_eq_true rfl) dX3_book_241 (fun H locs hP hD hS => ?_)
                      have hP : va_P g.1 zCL (mW g ad (va_up fi_239 12 (nI 0)) cn_239 xl) _ := hP
                      have hD : va_D (mA ad s.heap.size) (mW g ad (va_up fi_239 12 (nI 0)) cn_239 xl) := hD
                      refine lv_aload_n hx hb dX3_book_244 rfl (lv_at hl 0 rfl) ?_
                      refine va_get (D := g.1) (ci := 3) (v := .int (fi_239 17)) (C := RX3) (T := TX3) (N := 30) hx hb hts in_X3 hown hK hP 0 rfl rfl 17 (by decide) (hts _ q1314) (fun _ h9 => h9) rfl dX3_book_245 ?_
                      refine zti (hq17_R239) ?_
                      refine zi_le (tgt := 267) hx hb (by omega) dX3_book_248 (by decide) (fun c_248 => ?_) (fun c_248 => ?_)
                      · refine lv_aload_n hx hb dX3_book_267 rfl (lv_at hl 0 rfl) ?_
                        refine lv_iconst (v := nI 0) hx hb dX3_book_268 (by decide) ?_
                        refine va_put (D := g.1) (ci := 3) (v := .int (nI 0)) (ty := .int) (C := RX3) (T := TX3) (N := 30) hx hb hts in_X3 tyX3 tyX3_ok nmX3 hown hK hP hD hS 0 rfl rfl 8 (by decide) (hts _ q1305) (fun _ h9 => h9) rfl (by decide +kernel) rfl rfl (Nat.le_of_ble_eq_true rfl) dX3_book_269 (fun H locs hP hD hS => ?_)
                        have hP : va_P g.1 zCL (mW g ad (va_up (va_up fi_239 8 (nI 0)) 12 (nI 0)) cn_239 xl) _ := hP
                        have hD : va_D (mA ad s.heap.size) (mW g ad (va_up (va_up fi_239 8 (nI 0)) 12 (nI 0)) cn_239 xl) := hD
                        refine lv_iconst (v := nI 0) hx hb dX3_book_272 (by decide) ?_
                        refine lv_istore_n (lv' := [(1, .int (nI 0)), (0, .ref (ad 0))]) hx hb dX3_book_273 rfl hl (by decide) rfl (fun ls hl => ?_)
                        refine zloopW (head := 274) (44) (fun k H locs cells slots ls => cells = 0 ∧ slots = 0 ∧ va_P g.1 zCL (mW g ad (va_up (va_up fi_239 8 (nI 0)) 12 (nI 0)) (va_up cn_239 4 (nF (va_cpy (pbk T n).2.2.2.2 (S.2.1 4) 0 0 k))) xl) H ∧ va_D (mA ad s.heap.size) (mW g ad (va_up (va_up fi_239 8 (nI 0)) 12 (nI 0)) (va_up cn_239 4 (nF (va_cpy (pbk T n).2.2.2.2 (S.2.1 4) 0 0 k))) xl) ∧ va_S (mA ad s.heap.size) s.heap H locs ∧ lv_has ls 2 [(0, .ref (ad 0)), (1, .int (nI k))]) (fun k hv_k ih_274 H locs cells slots ls hI => ?_) 0 (Nat.zero_le _) ?_
                        · obtain ⟨rfl, rfl, hP, hD, hS, hl⟩ := hI
                          refine lv_iload_n hx hb dX3_book_274 rfl (lv_at hl 1 rfl) ?_
                          refine lv_bipush (v := nI 44) hx hb dX3_book_275 (by decide) ?_
                          refine zc_ge (tgt := 298) hx hb (by omega) (by omega) dX3_book_277 (by decide) (fun c_277 => ?_) (fun c_277 => ?_)
                          · obtain rfl : 44 = k := by omega
                            obtain ⟨hP, hD⟩ := hP.exi hD 4 (f' := nF (pbk T n).2.2.2.2) rfl (fun j hj => by show nI (va_cpy _ _ 0 0 44 j) = nI ((pbk T n).2.2.2.2 j); rw [zcpy_in (by omega) (by omega)]; rw [Nat.zero_add, Nat.sub_zero])
                            have hP : va_P g.1 zCL (mW g ad (va_up (va_up fi_239 8 (nI 0)) 12 (nI 0)) (va_up cn_239 4 (nF (pbk T n).2.2.2.2)) xl) _ := hP
                            have hD : va_D (mA ad s.heap.size) (mW g ad (va_up (va_up fi_239 8 (nI 0)) 12 (nI 0)) (va_up cn_239 4 (nF (pbk T n).2.2.2.2)) xl) := hD
                            refine lv_aload_n hx hb dX3_book_298 rfl (lv_at hl 0 rfl) ?_
                            refine va_get (D := g.1) (ci := 3) (v := .ref (ad 4)) (C := RX3) (T := TX3) (N := 30) hx hb hts in_X3 hown hK hP 0 rfl rfl 4 (by decide) (hts _ q1301) (fun _ h9 => h9) rfl dX3_book_299 ?_
                            refine lv_iconst (v := nI 0) hx hb dX3_book_302 (by decide) ?_
                            refine zald hx hb hK hP 4 0 rfl rfl (j := 0) (by omega) (by decide) dX3_book_303 ?_
                            refine zti (show (nF ((pbk T n).2.2.2.2)) 0 = nI (((pbk T n).2.2.2.2) 0) from rfl) ?_
                            exact W.iret (v := nI (((pbk T n).2.2.2.2) 0)) hx hb hr (fun t ht hW => ⟨⟨nI (((pbk T n).2.2.2.2) 0), (va_up (va_up fi_239 8 (nI 0)) 12 (nI 0), va_up cn_239 4 (nF (pbk T n).2.2.2.2), xl), rfl, (by unfold opBook; rw [hT11, hn12, zif_f c_248]; exact ⟨rfl, ⟨((hfr_R239 0 (by decide)).trans hf0), rfl, rfl, ((hfr_R239 19 (by decide)).trans hf19), ((hfr_R239 29 (by decide)).trans hf29), ((hcr_R239 1 (by decide)).trans hc1), ((hcr_R239 2 (by decide)).trans hc2), ((hcr_R239 3 (by decide)).trans hc3), rfl, ((hcr_R239 7 (by decide)).trans hc7), ((hcr_R239 11 (by decide)).trans hc11), ((hcr_R239 26 (by decide)).trans hc26), ((hcr_R239 27 (by decide)).trans hc27), ((hcr_R239 28 (by decide)).trans hc28)⟩, ⟨_, _, _, _, _, _, _, _, _, hq5_R239, ((hcr_R239 6 (by decide)).trans hc6), ((hcr_R239 9 (by decide)).trans hc9), ((hcr_R239 10 (by decide)).trans hc10), ((hcr_R239 24 (by decide)).trans hc24), ((hcr_R239 25 (by decide)).trans hc25), hc21, hc22, ((hfr_R239 23 (by decide)).trans hf23)⟩⟩), by rw [ht]; exact hP, hD⟩, hS.F ht⟩) hS.2.2 dX3_book_304
                          · refine lv_aload_n hx hb dX3_book_280 rfl (lv_at hl 0 rfl) ?_
                            refine va_get (D := g.1) (ci := 3) (v := .ref (ad 4)) (C := RX3) (T := TX3) (N := 30) hx hb hts in_X3 hown hK hP 0 rfl rfl 4 (by decide) (hts _ q1301) (fun _ h9 => h9) rfl dX3_book_281 ?_
                            refine lv_iload_n hx hb dX3_book_284 rfl (lv_at hl 1 rfl) ?_
                            refine lv_aload_n hx hb dX3_book_285 rfl (lv_at hl 0 rfl) ?_
                            refine va_get (D := g.1) (ci := 3) (v := .ref (ad 5)) (C := RX3) (T := TX3) (N := 30) hx hb hts in_X3 hown hK hP 0 rfl rfl 5 (by decide) (hts _ q1302) (fun _ h9 => h9) rfl dX3_book_286 ?_
                            refine lv_iload_n hx hb dX3_book_289 rfl (lv_at hl 1 rfl) ?_
                            refine zald hx hb hK hP 5 0 rfl rfl (j := k) (by omega) (by decide) dX3_book_290 ?_
                            refine zti (congrFun hq5_R239 _) ?_
                            refine zti (show (nF ((pbk T n).2.2.2.2)) k = nI (((pbk T n).2.2.2.2) k) from rfl) ?_
                            refine zast (f := nF (va_cpy (pbk T n).2.2.2.2 (S.2.1 4) 0 0 k)) hx hb hK hP hD hS 4 0 rfl rfl (j := k) (by omega) (by decide) dX3_book_291 (fun H locs hP hD hS => ?_)
                            rw [nF_up] at hP hD
                            have hP : va_P g.1 zCL (mW g ad (va_up (va_up fi_239 8 (nI 0)) 12 (nI 0)) (va_up cn_239 4 (nF (va_up (va_cpy (pbk T n).2.2.2.2 (S.2.1 4) 0 0 k) k (((pbk T n).2.2.2.2) k)))) xl) _ := hP
                            have hD : va_D (mA ad s.heap.size) (mW g ad (va_up (va_up fi_239 8 (nI 0)) 12 (nI 0)) (va_up cn_239 4 (nF (va_up (va_cpy (pbk T n).2.2.2.2 (S.2.1 4) 0 0 k) k (((pbk T n).2.2.2.2) k)))) xl) := hD
                            refine lv_iinc (v := nI (k + 1)) (lv' := [(1, .int (nI (k + 1))), (0, .ref (ad 0))]) hx hb dX3_book_292 hl (k := 1) rfl (nI_add k 1) (by decide) rfl (fun ls hl => ?_)
                            refine lv_goto (tgt := 274) hx hb dX3_book_295 (by decide) ?_
                            rw [show va_up (va_cpy (pbk T n).2.2.2.2 (S.2.1 4) 0 0 k) k ((pbk T n).2.2.2.2 k) = va_cpy (pbk T n).2.2.2.2 (S.2.1 4) 0 0 (k + 1) by have h9 := zcpy_s (pbk T n).2.2.2.2 (S.2.1 4) 0 0 k; rw [Nat.zero_add] at h9; exact h9] at hP hD
                            exact ih_274 (by omega) _ _ _ _ _ ⟨rfl, rfl, hP, hD, hS, lv_sub hl [1, 0] rfl⟩
                        · rw [mW_up (cn := cn_239) (k := 4) (f := nF (va_cpy (pbk T n).2.2.2.2 (S.2.1 4) 0 0 0)) (by rw [zcpy_0]; exact (hcr_R239 4 (by decide)).trans hc4)] at hP
                          rw [mW_up (cn := cn_239) (k := 4) (f := nF (va_cpy (pbk T n).2.2.2.2 (S.2.1 4) 0 0 0)) (by rw [zcpy_0]; exact (hcr_R239 4 (by decide)).trans hc4)] at hD
                          have hP : va_P g.1 zCL (mW g ad (va_up (va_up fi_239 8 (nI 0)) 12 (nI 0)) (va_up cn_239 4 (nF (va_cpy (pbk T n).2.2.2.2 (S.2.1 4) 0 0 0))) xl) _ := hP
                          have hD : va_D (mA ad s.heap.size) (mW g ad (va_up (va_up fi_239 8 (nI 0)) 12 (nI 0)) (va_up cn_239 4 (nF (va_cpy (pbk T n).2.2.2.2 (S.2.1 4) 0 0 0))) xl) := hD
                          exact ⟨rfl, rfl, hP, hD, hS, lv_sub hl [1, 0] rfl⟩
                      · refine lv_aload_n hx hb dX3_book_251 rfl (lv_at hl 0 rfl) ?_
                        refine lv_aload_n hx hb dX3_book_252 rfl (lv_at hl 0 rfl) ?_
                        refine va_get (D := g.1) (ci := 3) (v := .int (fi_239 17)) (C := RX3) (T := TX3) (N := 30) hx hb hts in_X3 hown hK hP 0 rfl rfl 17 (by decide) (hts _ q1314) (fun _ h9 => h9) rfl dX3_book_253 ?_
                        refine zti (hq17_R239) ?_
                        refine va_put (D := g.1) (ci := 3) (v := .int (nI ((pbk T n).2.1))) (ty := .int) (C := RX3) (T := TX3) (N := 30) hx hb hts in_X3 tyX3 tyX3_ok nmX3 hown hK hP hD hS 0 rfl rfl 19 (by decide) (hts _ q1316) (fun _ h9 => h9) rfl (by decide +kernel) rfl rfl (Nat.le_of_ble_eq_true rfl) dX3_book_256 (fun H locs hP hD hS => ?_)
                        have hP : va_P g.1 zCL (mW g ad (va_up (va_up fi_239 12 (nI 0)) 19 (nI ((pbk T n).2.1))) cn_239 xl) _ := hP
                        have hD : va_D (mA ad s.heap.size) (mW g ad (va_up (va_up fi_239 12 (nI 0)) 19 (nI ((pbk T n).2.1))) cn_239 xl) := hD
                        refine lv_ldc hx hb hown (hts _ q1466) dX3_book_259 ?_
                        refine lv_aload_n hx hb dX3_book_261 rfl (lv_at hl 0 rfl) ?_
                        refine va_get (D := g.1) (ci := 3) (v := .int (fi_239 18)) (C := RX3) (T := TX3) (N := 30) hx hb hts in_X3 hown hK hP 0 rfl rfl 18 (by decide) (hts _ q1315) (fun _ h9 => h9) rfl dX3_book_262 ?_
                        refine lv_isub hx hb dX3_book_265 ?_
                        exact W.iret (v := (-1000100) - (fi_239 18)) hx hb hr (fun t ht hW => ⟨⟨(-1000100) - (fi_239 18), (va_up (va_up fi_239 12 (nI 0)) 19 (nI ((pbk T n).2.1)), cn_239, xl), rfl, (by unfold opBook; rw [hT11, hn12, zif_t c_248]; exact ⟨(congrArg (fun z => -1000100 - z) (hq18_R239 c_248)), ⟨((hfr_R239 0 (by decide)).trans hf0), ((hfr_R239 8 (by decide)).trans hf8), rfl, rfl, ((hfr_R239 29 (by decide)).trans hf29), ((hcr_R239 1 (by decide)).trans hc1), ((hcr_R239 2 (by decide)).trans hc2), ((hcr_R239 3 (by decide)).trans hc3), ((hcr_R239 4 (by decide)).trans hc4), ((hcr_R239 7 (by decide)).trans hc7), ((hcr_R239 11 (by decide)).trans hc11), ((hcr_R239 26 (by decide)).trans hc26), ((hcr_R239 27 (by decide)).trans hc27), ((hcr_R239 28 (by decide)).trans hc28)⟩, ⟨_, _, _, _, _, _, _, _, _, hq5_R239, ((hcr_R239 6 (by decide)).trans hc6), ((hcr_R239 9 (by decide)).trans hc9), ((hcr_R239 10 (by decide)).trans hc10), ((hcr_R239 24 (by decide)).trans hc24), ((hcr_R239 25 (by decide)).trans hc25), hc21, hc22, ((hfr_R239 23 (by decide)).trans hf23)⟩⟩), by rw [ht]; exact hP, hD⟩, hS.F ht⟩) hS.2.2 dX3_book_266
            · refine lv_aload_n hx hb dX3_book_149 rfl (lv_at hl 0 rfl) ?_
              refine va_get (D := g.1) (ci := 3) (v := .int (fi_L105 15)) (C := RX3) (T := TX3) (N := 30) hx hb hts in_X3 hown hK hP 0 rfl rfl 15 (by decide) (hts _ q1312) (fun _ h9 => h9) rfl dX3_book_150 ?_
              refine zti (hq15_L105) ?_
              refine lv_iconst (v := nI 2) hx hb dX3_book_153 (by decide) ?_
              refine zc_ne (tgt := 170) hx hb (by omega) (by omega) dX3_book_154 (by decide) (fun c_154 => ?_) (fun c_154 => ?_)
              · refine lv_iconst (v := nI 0) hx hb dX3_book_170 (by decide) ?_
                exact jn_149 _ ((zB_f (fun z => c_154 z.1)).symm)
              · refine lv_aload_n hx hb dX3_book_157 rfl (lv_at hl 0 rfl) ?_
                refine va_get (D := g.1) (ci := 3) (v := .int (fi_L105 16)) (C := RX3) (T := TX3) (N := 30) hx hb hts in_X3 hown hK hP 0 rfl rfl 16 (by decide) (hts _ q1313) (fun _ h9 => h9) rfl dX3_book_158 ?_
                refine zti (hq16_L105) ?_
                refine lv_bipush (v := nI 120) hx hb dX3_book_161 (by decide) ?_
                refine lv_icmp_ne (tgt := 170) hx hb dX3_book_163 (by decide) (fun c_163 => ?_) (fun c_163 => ?_)
                · refine lv_iconst (v := nI 0) hx hb dX3_book_170 (by decide) ?_
                  exact jn_149 _ ((zB_f (fun z => c_163 z.2)).symm)
                · refine lv_iconst (v := nI 1) hx hb dX3_book_166 (by decide) ?_
                  refine lv_goto (tgt := 171) hx hb dX3_book_167 (by decide) ?_
                  exact jn_149 _ ((zB_t ⟨c_154, c_163⟩).symm)
          · refine lv_aload_n hx hb dX3_book_110 rfl (lv_at hl 0 rfl) ?_
            refine va_get (D := g.1) (ci := 3) (v := .int (fi_L105 17)) (C := RX3) (T := TX3) (N := 30) hx hb hts in_X3 hown hK hP 0 rfl rfl 17 (by decide) (hts _ q1314) (fun _ h9 => h9) rfl dX3_book_111 ?_
            refine zti (hq17_L105) ?_
            refine zi_ne (tgt := 148) hx hb (by omega) dX3_book_114 (by decide) (fun c_114 => ?_) (fun c_114 => ?_)
            · have hb1 : pbk1 T n = b0 := hrem.trans (prem_end c_114)
              subst hb1
              refine lv_aload_n hx hb dX3_book_148 rfl (lv_at hl 0 rfl) ?_
              refine zjoin (ls := ls) (α := Int32) (fun v9 => v9 = zB (pisX T n 120 (pbk1 T n).1)) (fun v9 => .int v9 :: [.ref (ad 0)]) 171 (fun v9 hv => ?_) (fun jn_149 => ?_)
              · subst hv
                have hle_171 := hS.1
                refine va_callv (va_runV (As := [.int (zB (pisX T n 120 (pbk1 T n).1))]) (rest := []) ⟨hx, hb, hml, hown, hts⟩ (m_X3_must l g ad fi_L105 cn_L105 xl _ T n (pbk1 T n) (show PF T n (pbk1 T n) fi_L105 cn_L105 from ⟨hq13_L105, hq14_L105, hq15_L105, hq16_L105, hq17_L105, hq18_L105, hq20_L105, hq5_L105, hq12_L105, hq11_L105⟩) hO_L105 (pisX T n 120 (pbk1 T n).1)) (cwV 1 hts (lw_V q1438 q1440 qs33 q69 q1441) rfl rfl rfl hdV_X3_must ⟨Nat.le_of_ble_eq_true rfl, Nat.le_of_ble_eq_true rfl⟩) (zpreV hK hN (va_recv hK hP (ci := 3) (q0 := 0) rfl rfl) ⟨rfl, hP, hD.weaken (fun _ _ _ _ => trivial)⟩) rfl rfl hl.1 rfl (lv_room (Nat.le_of_ble_eq_true rfl)) dX3_book_171 ⟨Nat.le_of_ble_eq_true rfl, Nat.le_of_ble_eq_true rfl⟩) hS (fun q _ h => mA_le hS.1 q h) (mA_le hS.1) (fun u t H locs ht hvm hw_171 hB hzz hkk hS => ?_)
                obtain ⟨hP, hD⟩ := hB
                rw [ht] at hP
                have hD := hD.weaken (fun _ _ _ h => mA_le hle_171 _ h)
                obtain ⟨fi_174, cn_174, xl_174⟩ := u
                obtain ⟨_, hPF_174, hO_174, hxl_174, hfr_174, hcr_174⟩ := hw_171
                have hxl_174 : xl = xl_174 := hxl_174.symm
                subst hxl_174
                have hPF_174 : PF T n (pmust T n (pisX T n 120 (pbk1 T n).1) (pbk1 T n)) fi_174 cn_174 := hPF_174
                have hO_174 : PO T n (pmust T n (pisX T n 120 (pbk1 T n).1) (pbk1 T n)) := hO_174
                have ho__174 := hO_174
                obtain ⟨ho1_174, _, _, ho4_174, ho16_174, hoF_174⟩ := ho__174
                have he13_174 := tkE_le (T := T) ho1_174
                have hk15_174 := tkK_le T n (pmust T n (pisX T n 120 (pbk1 T n).1) (pbk1 T n)).1
                obtain ⟨hq13_174, hq14_174, hq15_174, hq16_174, hq17_174, hq18_174, hq20_174, hq5_174, hq12_174, hq11_174⟩ := hPF_174
                have hfr_174 : ∀ k, (k < 13 ∨ 20 < k ∨ k = 19) → fi_174 k = fi k := fun k hk => (hfr_174 k hk).trans (hfr_L105 k hk)
                have hcr_174 : ∀ k, k ≠ 5 → cn_174 k = cn k := fun k hk => (hcr_174 k hk).trans (hcr_L105 k hk)
                have hP : va_P g.1 zCL (mW g ad fi_174 cn_174 xl) _ := hP
                have hD : va_D (mA ad s.heap.size) (mW g ad fi_174 cn_174 xl) := hD
                refine lv_aload_n hx hb dX3_book_174 rfl (lv_at hl 0 rfl) ?_
                refine va_get (D := g.1) (ci := 3) (v := .ref (ad 5)) (C := RX3) (T := TX3) (N := 30) hx hb hts in_X3 hown hK hP 0 rfl rfl 5 (by decide) (hts _ q1302) (fun _ h9 => h9) rfl dX3_book_175 ?_
                refine lv_iconst (v := nI 3) hx hb dX3_book_178 (by decide) ?_
                refine lv_aload_n hx hb dX3_book_179 rfl (lv_at hl 0 rfl) ?_
                refine lv_iconst (v := nI 4) hx hb dX3_book_180 (by decide) ?_
                refine lv_bipush (v := nI 8) hx hb dX3_book_181 (by decide) ?_
                have hle_183 := hS.1
                refine va_calli (va_runV (As := [.int (nI 4), .int (nI 8)]) (rest := [.int (nI 3), .ref (ad 5)]) ⟨hx, hb, hml, hown, hts⟩ (m_X3_readWord l g ad fi_174 cn_174 xl _ T n (pmust T n (pisX T n 120 (pbk1 T n).1) (pbk1 T n)) (show PF T n (pmust T n (pisX T n 120 (pbk1 T n).1) (pbk1 T n)) fi_174 cn_174 from ⟨hq13_174, hq14_174, hq15_174, hq16_174, hq17_174, hq18_174, hq20_174, hq5_174, hq12_174, hq11_174⟩) hO_174 4 8 (by omega) (by omega)) (cwV 2 hts (lw_V q1461 q1463 qs38 q69 q1464) rfl rfl rfl hdV_X3_readWord ⟨Nat.le_of_ble_eq_true rfl, Nat.le_of_ble_eq_true rfl⟩) (zpreV hK hN (va_recv hK hP (ci := 3) (q0 := 0) rfl rfl) ⟨rfl, hP, hD.weaken (fun _ _ _ _ => trivial)⟩) rfl rfl hl.1 rfl (lv_room (Nat.le_of_ble_eq_true rfl)) dX3_book_183 ⟨Nat.le_of_ble_eq_true rfl, Nat.le_of_ble_eq_true rfl⟩) hS (fun q _ h => mA_le hS.1 q h) (mA_le hS.1) (fun r_183 u t H locs ht hvm hw_183 hB hzz hkk hS => ?_)
                obtain ⟨hP, hD⟩ := hB
                rw [ht] at hP
                have hD := hD.weaken (fun _ _ _ h => mA_le hle_183 _ h)
                obtain ⟨fi_186, cn_186, xl_186⟩ := u
                obtain ⟨rfl, hPF_186, hO_186, hxl_186, hfr_186, hcr_186⟩ := hw_183
                have hxl_186 : xl = xl_186 := hxl_186.symm
                subst hxl_186
                have hPF_186 : PF T n (pwds T n 4 8 (pmust T n (pisX T n 120 (pbk1 T n).1) (pbk1 T n))) fi_186 cn_186 := hPF_186
                have hO_186 : PO T n (pwds T n 4 8 (pmust T n (pisX T n 120 (pbk1 T n).1) (pbk1 T n))) := hO_186
                have ho__186 := hO_186
                obtain ⟨ho1_186, _, _, ho4_186, ho16_186, hoF_186⟩ := ho__186
                have he13_186 := tkE_le (T := T) ho1_186
                have hk15_186 := tkK_le T n (pwds T n 4 8 (pmust T n (pisX T n 120 (pbk1 T n).1) (pbk1 T n))).1
                obtain ⟨hq13_186, hq14_186, hq15_186, hq16_186, hq17_186, hq18_186, hq20_186, hq5_186, hq12_186, hq11_186⟩ := hPF_186
                have hfr_186 : ∀ k, (k < 13 ∨ 20 < k ∨ k = 19) → fi_186 k = fi k := fun k hk => (hfr_186 k hk).trans (hfr_174 k hk)
                have hcr_186 : ∀ k, k ≠ 5 → cn_186 k = cn k := fun k hk => (hcr_186 k hk).trans (hcr_174 k hk)
                have hP : va_P g.1 zCL (mW g ad fi_186 cn_186 xl) _ := hP
                have hD : va_D (mA ad s.heap.size) (mW g ad fi_186 cn_186 xl) := hD
                refine zast (f := cn_186 5) hx hb hK hP hD hS 5 0 rfl rfl (j := 3) (by omega) (by decide) dX3_book_186 (fun H locs hP hD hS => ?_)
                rw [hq5_186] at hP hD
                rw [nF_up] at hP hD
                have hP : va_P g.1 zCL (mW g ad fi_186 (va_up cn_186 5 (nF (va_up ((pwds T n 4 8 (pmust T n (pisX T n 120 (pbk1 T n).1) (pbk1 T n))).2.2.2.2) 3 (pwdn T n 8 (pmust T n (pisX T n 120 (pbk1 T n).1) (pbk1 T n)))))) xl) _ := hP
                have hD : va_D (mA ad s.heap.size) (mW g ad fi_186 (va_up cn_186 5 (nF (va_up ((pwds T n 4 8 (pmust T n (pisX T n 120 (pbk1 T n).1) (pbk1 T n))).2.2.2.2) 3 (pwdn T n 8 (pmust T n (pisX T n 120 (pbk1 T n).1) (pbk1 T n)))))) xl) := hD
                have hO_k187 : PO T n (pwdm T n 4 8 3 (pmust T n (pisX T n 120 (pbk1 T n).1) (pbk1 T n))) := hO_186.set (Or.inl (by decide))
                refine lv_aload_n hx hb dX3_book_187 rfl (lv_at hl 0 rfl) ?_
                refine lv_bipush (v := nI 59) hx hb dX3_book_188 (by decide) ?_
                have hle_190 := hS.1
                refine va_callv (va_runV (As := [.int (nI 59)]) (rest := []) ⟨hx, hb, hml, hown, hts⟩ (m_X3_mustSign l g ad fi_186 (va_up cn_186 5 (nF (va_up ((pwds T n 4 8 (pmust T n (pisX T n 120 (pbk1 T n).1) (pbk1 T n))).2.2.2.2) 3 (pwdn T n 8 (pmust T n (pisX T n 120 (pbk1 T n).1) (pbk1 T n)))))) xl _ T n (pwdm T n 4 8 3 (pmust T n (pisX T n 120 (pbk1 T n).1) (pbk1 T n))) (show PF T n (pwdm T n 4 8 3 (pmust T n (pisX T n 120 (pbk1 T n).1) (pbk1 T n))) fi_186 (va_up cn_186 5 (nF (va_up ((pwds T n 4 8 (pmust T n (pisX T n 120 (pbk1 T n).1) (pbk1 T n))).2.2.2.2) 3 (pwdn T n 8 (pmust T n (pisX T n 120 (pbk1 T n).1) (pbk1 T n)))))) from ⟨hq13_186, hq14_186, hq15_186, hq16_186, hq17_186, hq18_186, hq20_186, rfl, hq12_186, hq11_186⟩) hO_k187 59 (by decide)) (cwV 1 hts (lw_V q1450 q1452 qs36 q69 q1453) rfl rfl rfl hdV_X3_mustSign ⟨Nat.le_of_ble_eq_true rfl, Nat.le_of_ble_eq_true rfl⟩) (zpreV hK hN (va_recv hK hP (ci := 3) (q0 := 0) rfl rfl) ⟨rfl, hP, hD.weaken (fun _ _ _ _ => trivial)⟩) rfl rfl hl.1 rfl (lv_room (Nat.le_of_ble_eq_true rfl)) dX3_book_190 ⟨Nat.le_of_ble_eq_true rfl, Nat.le_of_ble_eq_true rfl⟩) hS (fun q _ h => mA_le hS.1 q h) (mA_le hS.1) (fun u t H locs ht hvm hw_190 hB hzz hkk hS => ?_)
                obtain ⟨hP, hD⟩ := hB
                rw [ht] at hP
                have hD := hD.weaken (fun _ _ _ h => mA_le hle_190 _ h)
                obtain ⟨fi_193, cn_193, xl_193⟩ := u
                obtain ⟨_, hPF_193, hO_193, hxl_193, hfr_193, hcr_193⟩ := hw_190
                have hxl_193 : xl = xl_193 := hxl_193.symm
                subst hxl_193
                have hPF_193 : PF T n (psgn T n 59 (pwdm T n 4 8 3 (pmust T n (pisX T n 120 (pbk1 T n).1) (pbk1 T n)))) fi_193 cn_193 := hPF_193
                have hO_193 : PO T n (psgn T n 59 (pwdm T n 4 8 3 (pmust T n (pisX T n 120 (pbk1 T n).1) (pbk1 T n)))) := hO_193
                have ho__193 := hO_193
                obtain ⟨ho1_193, _, _, ho4_193, ho16_193, hoF_193⟩ := ho__193
                have he13_193 := tkE_le (T := T) ho1_193
                have hk15_193 := tkK_le T n (psgn T n 59 (pwdm T n 4 8 3 (pmust T n (pisX T n 120 (pbk1 T n).1) (pbk1 T n)))).1
                obtain ⟨hq13_193, hq14_193, hq15_193, hq16_193, hq17_193, hq18_193, hq20_193, hq5_193, hq12_193, hq11_193⟩ := hPF_193
                have hfr_193 : ∀ k, (k < 13 ∨ 20 < k ∨ k = 19) → fi_193 k = fi k := fun k hk => (hfr_193 k hk).trans (hfr_186 k hk)
                have hcr_193 : ∀ k, k ≠ 5 → cn_193 k = cn k := fun k hk => (hcr_193 k hk).trans ((va_up_ne _ _ hk).trans (hcr_186 k hk))
                have hP : va_P g.1 zCL (mW g ad fi_193 cn_193 xl) _ := hP
                have hD : va_D (mA ad s.heap.size) (mW g ad fi_193 cn_193 xl) := hD
                have hPF_R193 : PF T n (pbk2 T n) fi_193 cn_193 := ⟨hq13_193, hq14_193, hq15_193, hq16_193, hq17_193, hq18_193, hq20_193, hq5_193, hq12_193, hq11_193⟩
                have hO_R193 : PO T n (pbk2 T n) := hO_193
                have ho__R193 := hO_R193
                obtain ⟨ho1_R193, _, _, ho4_R193, ho16_R193, hoF_R193⟩ := ho__R193
                have he13_R193 := tkE_le (T := T) ho1_R193
                have hk15_R193 := tkK_le T n (pbk2 T n).1
                obtain ⟨hq13_R193, hq14_R193, hq15_R193, hq16_R193, hq17_R193, hq18_R193, hq20_R193, hq5_R193, hq12_R193, hq11_R193⟩ := hPF_R193
                have hfr_R193 := hfr_193
                have hcr_R193 := hcr_193
                refine lv_aload_n hx hb dX3_book_193 rfl (lv_at hl 0 rfl) ?_
                refine va_get (D := g.1) (ci := 3) (v := .int (fi_193 17)) (C := RX3) (T := TX3) (N := 30) hx hb hts in_X3 hown hK hP 0 rfl rfl 17 (by decide) (hts _ q1314) (fun _ h9 => h9) rfl dX3_book_194 ?_
                refine zti (hq17_R193) ?_
                refine zi_ne (tgt := 213) hx hb (by omega) dX3_book_197 (by decide) (fun c_197 => ?_) (fun c_197 => ?_)
                · have hPF_R213 : PF T n (pbk3 T n) fi_193 cn_193 := (by rw [show pbk3 T n = pbk2 T n from zif_same (pbad_id c_197)]; exact ⟨hq13_R193, hq14_R193, hq15_R193, hq16_R193, hq17_R193, hq18_R193, hq20_R193, hq5_R193, hq12_R193, hq11_R193⟩)
                  have hO_R213 : PO T n (pbk3 T n) := (by rw [show pbk3 T n = pbk2 T n from zif_same (pbad_id c_197)]; exact hO_R193)
                  have ho__R213 := hO_R213
                  obtain ⟨ho1_R213, _, _, ho4_R213, ho16_R213, hoF_R213⟩ := ho__R213
                  have he13_R213 := tkE_le (T := T) ho1_R213
                  have hk15_R213 := tkK_le T n (pbk3 T n).1
                  obtain ⟨hq13_R213, hq14_R213, hq15_R213, hq16_R213, hq17_R213, hq18_R213, hq20_R213, hq5_R213, hq12_R213, hq11_R213⟩ := hPF_R213
                  have hfr_R213 := hfr_R193
                  have hcr_R213 := hcr_R193
                  refine lv_aload_n hx hb dX3_book_213 rfl (lv_at hl 0 rfl) ?_
                  refine va_get (D := g.1) (ci := 3) (v := .int (fi_193 17)) (C := RX3) (T := TX3) (N := 30) hx hb hts in_X3 hown hK hP 0 rfl rfl 17 (by decide) (hts _ q1314) (fun _ h9 => h9) rfl dX3_book_214 ?_
                  refine zti (hq17_R213) ?_
                  refine zi_ne (tgt := 239) hx hb (by omega) dX3_book_217 (by decide) (fun c_217 => ?_) (fun c_217 => ?_)
                  · have hPF_R239 : PF T n (pbk T n) fi_193 cn_193 := (by rw [show pbk T n = pbk3 T n from zif_same (pbad_id c_217)]; exact ⟨hq13_R213, hq14_R213, hq15_R213, hq16_R213, hq17_R213, hq18_R213, hq20_R213, hq5_R213, hq12_R213, hq11_R213⟩)
                    have hO_R239 : PO T n (pbk T n) := (by rw [show pbk T n = pbk3 T n from zif_same (pbad_id c_217)]; exact hO_R213)
                    have ho__R239 := hO_R239
                    obtain ⟨ho1_R239, _, _, ho4_R239, ho16_R239, hoF_R239⟩ := ho__R239
                    have he13_R239 := tkE_le (T := T) ho1_R239
                    have hk15_R239 := tkK_le T n (pbk T n).1
                    obtain ⟨hq13_R239, hq14_R239, hq15_R239, hq16_R239, hq17_R239, hq18_R239, hq20_R239, hq5_R239, hq12_R239, hq11_R239⟩ := hPF_R239
                    have hfr_R239 := hfr_R213
                    have hcr_R239 := hcr_R213
                    refine lv_aload_n hx hb dX3_book_239 rfl (lv_at hl 0 rfl) ?_
                    refine lv_iconst (v := nI 0) hx hb dX3_book_240 (by decide) ?_
                    refine va_put (D := g.1) (ci := 3) (v := .int (nI 0)) (ty := .int) (C := RX3) (T := TX3) (N := 30) hx hb hts in_X3 tyX3 tyX3_ok nmX3 hown hK hP hD hS 0 rfl rfl 12 (by decide) (hts _ q1309) (fun _ h9 => h9) rfl (by decide +kernel) rfl rfl (Nat.le_of_ble_eq_true rfl) dX3_book_241 (fun H locs hP hD hS => ?_)
                    have hP : va_P g.1 zCL (mW g ad (va_up fi_193 12 (nI 0)) cn_193 xl) _ := hP
                    have hD : va_D (mA ad s.heap.size) (mW g ad (va_up fi_193 12 (nI 0)) cn_193 xl) := hD
                    refine lv_aload_n hx hb dX3_book_244 rfl (lv_at hl 0 rfl) ?_
                    refine va_get (D := g.1) (ci := 3) (v := .int (fi_193 17)) (C := RX3) (T := TX3) (N := 30) hx hb hts in_X3 hown hK hP 0 rfl rfl 17 (by decide) (hts _ q1314) (fun _ h9 => h9) rfl dX3_book_245 ?_
                    refine zti (hq17_R239) ?_
                    refine zi_le (tgt := 267) hx hb (by omega) dX3_book_248 (by decide) (fun c_248 => ?_) (fun c_248 => ?_)
                    · refine lv_aload_n hx hb dX3_book_267 rfl (lv_at hl 0 rfl) ?_
                      refine lv_iconst (v := nI 0) hx hb dX3_book_268 (by decide) ?_
                      refine va_put (D := g.1) (ci := 3) (v := .int (nI 0)) (ty := .int) (C := RX3) (T := TX3) (N := 30) hx hb hts in_X3 tyX3 tyX3_ok nmX3 hown hK hP hD hS 0 rfl rfl 8 (by decide) (hts _ q1305) (fun _ h9 => h9) rfl (by decide +kernel) rfl rfl (Nat.le_of_ble_eq_true rfl) dX3_book_269 (fun H locs hP hD hS => ?_)
                      have hP : va_P g.1 zCL (mW g ad (va_up (va_up fi_193 8 (nI 0)) 12 (nI 0)) cn_193 xl) _ := hP
                      have hD : va_D (mA ad s.heap.size) (mW g ad (va_up (va_up fi_193 8 (nI 0)) 12 (nI 0)) cn_193 xl) := hD
                      refine lv_iconst (v := nI 0) hx hb dX3_book_272 (by decide) ?_
                      refine lv_istore_n (lv' := [(1, .int (nI 0)), (0, .ref (ad 0))]) hx hb dX3_book_273 rfl hl (by decide) rfl (fun ls hl => ?_)
                      refine zloopW (head := 274) (44) (fun k H locs cells slots ls => cells = 0 ∧ slots = 0 ∧ va_P g.1 zCL (mW g ad (va_up (va_up fi_193 8 (nI 0)) 12 (nI 0)) (va_up cn_193 4 (nF (va_cpy (pbk T n).2.2.2.2 (S.2.1 4) 0 0 k))) xl) H ∧ va_D (mA ad s.heap.size) (mW g ad (va_up (va_up fi_193 8 (nI 0)) 12 (nI 0)) (va_up cn_193 4 (nF (va_cpy (pbk T n).2.2.2.2 (S.2.1 4) 0 0 k))) xl) ∧ va_S (mA ad s.heap.size) s.heap H locs ∧ lv_has ls 2 [(0, .ref (ad 0)), (1, .int (nI k))]) (fun k hv_k ih_274 H locs cells slots ls hI => ?_) 0 (Nat.zero_le _) ?_
                      · obtain ⟨rfl, rfl, hP, hD, hS, hl⟩ := hI
                        refine lv_iload_n hx hb dX3_book_274 rfl (lv_at hl 1 rfl) ?_
                        refine lv_bipush (v := nI 44) hx hb dX3_book_275 (by decide) ?_
                        refine zc_ge (tgt := 298) hx hb (by omega) (by omega) dX3_book_277 (by decide) (fun c_277 => ?_) (fun c_277 => ?_)
                        · obtain rfl : 44 = k := by omega
                          obtain ⟨hP, hD⟩ := hP.exi hD 4 (f' := nF (pbk T n).2.2.2.2) rfl (fun j hj => by show nI (va_cpy _ _ 0 0 44 j) = nI ((pbk T n).2.2.2.2 j); rw [zcpy_in (by omega) (by omega)]; rw [Nat.zero_add, Nat.sub_zero])
                          have hP : va_P g.1 zCL (mW g ad (va_up (va_up fi_193 8 (nI 0)) 12 (nI 0)) (va_up cn_193 4 (nF (pbk T n).2.2.2.2)) xl) _ := hP
                          have hD : va_D (mA ad s.heap.size) (mW g ad (va_up (va_up fi_193 8 (nI 0)) 12 (nI 0)) (va_up cn_193 4 (nF (pbk T n).2.2.2.2)) xl) := hD
                          refine lv_aload_n hx hb dX3_book_298 rfl (lv_at hl 0 rfl) ?_
                          refine va_get (D := g.1) (ci := 3) (v := .ref (ad 4)) (C := RX3) (T := TX3) (N := 30) hx hb hts in_X3 hown hK hP 0 rfl rfl 4 (by decide) (hts _ q1301) (fun _ h9 => h9) rfl dX3_book_299 ?_
                          refine lv_iconst (v := nI 0) hx hb dX3_book_302 (by decide) ?_
                          refine zald hx hb hK hP 4 0 rfl rfl (j := 0) (by omega) (by decide) dX3_book_303 ?_
                          refine zti (show (nF ((pbk T n).2.2.2.2)) 0 = nI (((pbk T n).2.2.2.2) 0) from rfl) ?_
                          exact W.iret (v := nI (((pbk T n).2.2.2.2) 0)) hx hb hr (fun t ht hW => ⟨⟨nI (((pbk T n).2.2.2.2) 0), (va_up (va_up fi_193 8 (nI 0)) 12 (nI 0), va_up cn_193 4 (nF (pbk T n).2.2.2.2), xl), rfl, (by unfold opBook; rw [hT11, hn12, zif_f c_248]; exact ⟨rfl, ⟨((hfr_R239 0 (by decide)).trans hf0), rfl, rfl, ((hfr_R239 19 (by decide)).trans hf19), ((hfr_R239 29 (by decide)).trans hf29), ((hcr_R239 1 (by decide)).trans hc1), ((hcr_R239 2 (by decide)).trans hc2), ((hcr_R239 3 (by decide)).trans hc3), rfl, ((hcr_R239 7 (by decide)).trans hc7), ((hcr_R239 11 (by decide)).trans hc11), ((hcr_R239 26 (by decide)).trans hc26), ((hcr_R239 27 (by decide)).trans hc27), ((hcr_R239 28 (by decide)).trans hc28)⟩, ⟨_, _, _, _, _, _, _, _, _, hq5_R239, ((hcr_R239 6 (by decide)).trans hc6), ((hcr_R239 9 (by decide)).trans hc9), ((hcr_R239 10 (by decide)).trans hc10), ((hcr_R239 24 (by decide)).trans hc24), ((hcr_R239 25 (by decide)).trans hc25), hc21, hc22, ((hfr_R239 23 (by decide)).trans hf23)⟩⟩), by rw [ht]; exact hP, hD⟩, hS.F ht⟩) hS.2.2 dX3_book_304
                        · refine lv_aload_n hx hb dX3_book_280 rfl (lv_at hl 0 rfl) ?_
                          refine va_get (D := g.1) (ci := 3) (v := .ref (ad 4)) (C := RX3) (T := TX3) (N := 30) hx hb hts in_X3 hown hK hP 0 rfl rfl 4 (by decide) (hts _ q1301) (fun _ h9 => h9) rfl dX3_book_281 ?_
                          refine lv_iload_n hx hb dX3_book_284 rfl (lv_at hl 1 rfl) ?_
                          refine lv_aload_n hx hb dX3_book_285 rfl (lv_at hl 0 rfl) ?_
                          refine va_get (D := g.1) (ci := 3) (v := .ref (ad 5)) (C := RX3) (T := TX3) (N := 30) hx hb hts in_X3 hown hK hP 0 rfl rfl 5 (by decide) (hts _ q1302) (fun _ h9 => h9) rfl dX3_book_286 ?_
                          refine lv_iload_n hx hb dX3_book_289 rfl (lv_at hl 1 rfl) ?_
                          refine zald hx hb hK hP 5 0 rfl rfl (j := k) (by omega) (by decide) dX3_book_290 ?_
                          refine zti (congrFun hq5_R239 _) ?_
                          refine zti (show (nF ((pbk T n).2.2.2.2)) k = nI (((pbk T n).2.2.2.2) k) from rfl) ?_
                          refine zast (f := nF (va_cpy (pbk T n).2.2.2.2 (S.2.1 4) 0 0 k)) hx hb hK hP hD hS 4 0 rfl rfl (j := k) (by omega) (by decide) dX3_book_291 (fun H locs hP hD hS => ?_)
                          rw [nF_up] at hP hD
                          have hP : va_P g.1 zCL (mW g ad (va_up (va_up fi_193 8 (nI 0)) 12 (nI 0)) (va_up cn_193 4 (nF (va_up (va_cpy (pbk T n).2.2.2.2 (S.2.1 4) 0 0 k) k (((pbk T n).2.2.2.2) k)))) xl) _ := hP
                          have hD : va_D (mA ad s.heap.size) (mW g ad (va_up (va_up fi_193 8 (nI 0)) 12 (nI 0)) (va_up cn_193 4 (nF (va_up (va_cpy (pbk T n).2.2.2.2 (S.2.1 4) 0 0 k) k (((pbk T n).2.2.2.2) k)))) xl) := hD
                          refine lv_iinc (v := nI (k + 1)) (lv' := [(1, .int (nI (k + 1))), (0, .ref (ad 0))]) hx hb dX3_book_292 hl (k := 1) rfl (nI_add k 1) (by decide) rfl (fun ls hl => ?_)
                          refine lv_goto (tgt := 274) hx hb dX3_book_295 (by decide) ?_
                          rw [show va_up (va_cpy (pbk T n).2.2.2.2 (S.2.1 4) 0 0 k) k ((pbk T n).2.2.2.2 k) = va_cpy (pbk T n).2.2.2.2 (S.2.1 4) 0 0 (k + 1) by have h9 := zcpy_s (pbk T n).2.2.2.2 (S.2.1 4) 0 0 k; rw [Nat.zero_add] at h9; exact h9] at hP hD
                          exact ih_274 (by omega) _ _ _ _ _ ⟨rfl, rfl, hP, hD, hS, lv_sub hl [1, 0] rfl⟩
                      · rw [mW_up (cn := cn_193) (k := 4) (f := nF (va_cpy (pbk T n).2.2.2.2 (S.2.1 4) 0 0 0)) (by rw [zcpy_0]; exact (hcr_R239 4 (by decide)).trans hc4)] at hP
                        rw [mW_up (cn := cn_193) (k := 4) (f := nF (va_cpy (pbk T n).2.2.2.2 (S.2.1 4) 0 0 0)) (by rw [zcpy_0]; exact (hcr_R239 4 (by decide)).trans hc4)] at hD
                        have hP : va_P g.1 zCL (mW g ad (va_up (va_up fi_193 8 (nI 0)) 12 (nI 0)) (va_up cn_193 4 (nF (va_cpy (pbk T n).2.2.2.2 (S.2.1 4) 0 0 0))) xl) _ := hP
                        have hD : va_D (mA ad s.heap.size) (mW g ad (va_up (va_up fi_193 8 (nI 0)) 12 (nI 0)) (va_up cn_193 4 (nF (va_cpy (pbk T n).2.2.2.2 (S.2.1 4) 0 0 0))) xl) := hD
                        exact ⟨rfl, rfl, hP, hD, hS, lv_sub hl [1, 0] rfl⟩
                    · refine lv_aload_n hx hb dX3_book_251 rfl (lv_at hl 0 rfl) ?_
                      refine lv_aload_n hx hb dX3_book_252 rfl (lv_at hl 0 rfl) ?_
                      refine va_get (D := g.1) (ci := 3) (v := .int (fi_193 17)) (C := RX3) (T := TX3) (N := 30) hx hb hts in_X3 hown hK hP 0 rfl rfl 17 (by decide) (hts _ q1314) (fun _ h9 => h9) rfl dX3_book_253 ?_
                      refine zti (hq17_R239) ?_
                      refine va_put (D := g.1) (ci := 3) (v := .int (nI ((pbk T n).2.1))) (ty := .int) (C := RX3) (T := TX3) (N := 30) hx hb hts in_X3 tyX3 tyX3_ok nmX3 hown hK hP hD hS 0 rfl rfl 19 (by decide) (hts _ q1316) (fun _ h9 => h9) rfl (by decide +kernel) rfl rfl (Nat.le_of_ble_eq_true rfl) dX3_book_256 (fun H locs hP hD hS => ?_)
                      have hP : va_P g.1 zCL (mW g ad (va_up (va_up fi_193 12 (nI 0)) 19 (nI ((pbk T n).2.1))) cn_193 xl) _ := hP
                      have hD : va_D (mA ad s.heap.size) (mW g ad (va_up (va_up fi_193 12 (nI 0)) 19 (nI ((pbk T n).2.1))) cn_193 xl) := hD
                      refine lv_ldc hx hb hown (hts _ q1466) dX3_book_259 ?_
                      refine lv_aload_n hx hb dX3_book_261 rfl (lv_at hl 0 rfl) ?_
                      refine va_get (D := g.1) (ci := 3) (v := .int (fi_193 18)) (C := RX3) (T := TX3) (N := 30) hx hb hts in_X3 hown hK hP 0 rfl rfl 18 (by decide) (hts _ q1315) (fun _ h9 => h9) rfl dX3_book_262 ?_
                      refine lv_isub hx hb dX3_book_265 ?_
                      exact W.iret (v := (-1000100) - (fi_193 18)) hx hb hr (fun t ht hW => ⟨⟨(-1000100) - (fi_193 18), (va_up (va_up fi_193 12 (nI 0)) 19 (nI ((pbk T n).2.1)), cn_193, xl), rfl, (by unfold opBook; rw [hT11, hn12, zif_t c_248]; exact ⟨(congrArg (fun z => -1000100 - z) (hq18_R239 c_248)), ⟨((hfr_R239 0 (by decide)).trans hf0), ((hfr_R239 8 (by decide)).trans hf8), rfl, rfl, ((hfr_R239 29 (by decide)).trans hf29), ((hcr_R239 1 (by decide)).trans hc1), ((hcr_R239 2 (by decide)).trans hc2), ((hcr_R239 3 (by decide)).trans hc3), ((hcr_R239 4 (by decide)).trans hc4), ((hcr_R239 7 (by decide)).trans hc7), ((hcr_R239 11 (by decide)).trans hc11), ((hcr_R239 26 (by decide)).trans hc26), ((hcr_R239 27 (by decide)).trans hc27), ((hcr_R239 28 (by decide)).trans hc28)⟩, ⟨_, _, _, _, _, _, _, _, _, hq5_R239, ((hcr_R239 6 (by decide)).trans hc6), ((hcr_R239 9 (by decide)).trans hc9), ((hcr_R239 10 (by decide)).trans hc10), ((hcr_R239 24 (by decide)).trans hc24), ((hcr_R239 25 (by decide)).trans hc25), hc21, hc22, ((hfr_R239 23 (by decide)).trans hf23)⟩⟩), by rw [ht]; exact hP, hD⟩, hS.F ht⟩) hS.2.2 dX3_book_266
                  · refine lv_aload_n hx hb dX3_book_220 rfl (lv_at hl 0 rfl) ?_
                    refine va_get (D := g.1) (ci := 3) (v := .int (fi_193 20)) (C := RX3) (T := TX3) (N := 30) hx hb hts in_X3 hown hK hP 0 rfl rfl 20 (by decide) (hts _ q1317) (fun _ h9 => h9) rfl dX3_book_221 ?_
                    refine zti (hq20_R213) ?_
                    refine lv_aload_n hx hb dX3_book_224 rfl (lv_at hl 0 rfl) ?_
                    refine va_get (D := g.1) (ci := 3) (v := .ref (ad 5)) (C := RX3) (T := TX3) (N := 30) hx hb hts in_X3 hown hK hP 0 rfl rfl 5 (by decide) (hts _ q1302) (fun _ h9 => h9) rfl dX3_book_225 ?_
                    refine lv_iconst (v := nI 0) hx hb dX3_book_228 (by decide) ?_
                    refine zald hx hb hK hP 5 0 rfl rfl (j := 0) (by omega) (by decide) dX3_book_229 ?_
                    refine zti (congrFun hq5_R213 _) ?_
                    refine zti (show (nF ((pbk3 T n).2.2.2.2)) 0 = nI (((pbk3 T n).2.2.2.2) 0) from rfl) ?_
                    refine lv_ishr hx hb dX3_book_230 ?_
                    refine zti (show _ = nI ((pbk3 T n).2.2.2.1 / 2 ^ (pbk3 T n).2.2.2.2 0) from (zshr (by omega) (by omega))) ?_
                    have hdl : (pbk3 T n).2.2.2.1 / 2 ^ (pbk3 T n).2.2.2.2 0 ≤ (pbk3 T n).2.2.2.1 := Nat.div_le_self _ _
                    refine zi_eq (tgt := 239) hx hb (by omega) dX3_book_231 (by decide) (fun c_231 => ?_) (fun c_231 => ?_)
                    · have hPF_R239 : PF T n (pbk T n) fi_193 cn_193 := (by rw [show pbk T n = pbk3 T n from zif_t c_231]; exact ⟨hq13_R213, hq14_R213, hq15_R213, hq16_R213, hq17_R213, hq18_R213, hq20_R213, hq5_R213, hq12_R213, hq11_R213⟩)
                      have hO_R239 : PO T n (pbk T n) := (by rw [show pbk T n = pbk3 T n from zif_t c_231]; exact hO_R213)
                      have ho__R239 := hO_R239
                      obtain ⟨ho1_R239, _, _, ho4_R239, ho16_R239, hoF_R239⟩ := ho__R239
                      have he13_R239 := tkE_le (T := T) ho1_R239
                      have hk15_R239 := tkK_le T n (pbk T n).1
                      obtain ⟨hq13_R239, hq14_R239, hq15_R239, hq16_R239, hq17_R239, hq18_R239, hq20_R239, hq5_R239, hq12_R239, hq11_R239⟩ := hPF_R239
                      have hfr_R239 := hfr_R213
                      have hcr_R239 := hcr_R213
                      refine lv_aload_n hx hb dX3_book_239 rfl (lv_at hl 0 rfl) ?_
                      refine lv_iconst (v := nI 0) hx hb dX3_book_240 (by decide) ?_
                      refine va_put (D := g.1) (ci := 3) (v := .int (nI 0)) (ty := .int) (C := RX3) (T := TX3) (N := 30) hx hb hts in_X3 tyX3 tyX3_ok nmX3 hown hK hP hD hS 0 rfl rfl 12 (by decide) (hts _ q1309) (fun _ h9 => h9) rfl (by decide +kernel) rfl rfl (Nat.le_of_ble_eq_true rfl) dX3_book_241 (fun H locs hP hD hS => ?_)
                      have hP : va_P g.1 zCL (mW g ad (va_up fi_193 12 (nI 0)) cn_193 xl) _ := hP
                      have hD : va_D (mA ad s.heap.size) (mW g ad (va_up fi_193 12 (nI 0)) cn_193 xl) := hD
                      refine lv_aload_n hx hb dX3_book_244 rfl (lv_at hl 0 rfl) ?_
                      refine va_get (D := g.1) (ci := 3) (v := .int (fi_193 17)) (C := RX3) (T := TX3) (N := 30) hx hb hts in_X3 hown hK hP 0 rfl rfl 17 (by decide) (hts _ q1314) (fun _ h9 => h9) rfl dX3_book_245 ?_
                      refine zti (hq17_R239) ?_
                      refine zi_le (tgt := 267) hx hb (by omega) dX3_book_248 (by decide) (fun c_248 => ?_) (fun c_248 => ?_)
                      · refine lv_aload_n hx hb dX3_book_267 rfl (lv_at hl 0 rfl) ?_
                        refine lv_iconst (v := nI 0) hx hb dX3_book_268 (by decide) ?_
                        refine va_put (D := g.1) (ci := 3) (v := .int (nI 0)) (ty := .int) (C := RX3) (T := TX3) (N := 30) hx hb hts in_X3 tyX3 tyX3_ok nmX3 hown hK hP hD hS 0 rfl rfl 8 (by decide) (hts _ q1305) (fun _ h9 => h9) rfl (by decide +kernel) rfl rfl (Nat.le_of_ble_eq_true rfl) dX3_book_269 (fun H locs hP hD hS => ?_)
                        have hP : va_P g.1 zCL (mW g ad (va_up (va_up fi_193 8 (nI 0)) 12 (nI 0)) cn_193 xl) _ := hP
                        have hD : va_D (mA ad s.heap.size) (mW g ad (va_up (va_up fi_193 8 (nI 0)) 12 (nI 0)) cn_193 xl) := hD
                        refine lv_iconst (v := nI 0) hx hb dX3_book_272 (by decide) ?_
                        refine lv_istore_n (lv' := [(1, .int (nI 0)), (0, .ref (ad 0))]) hx hb dX3_book_273 rfl hl (by decide) rfl (fun ls hl => ?_)
                        refine zloopW (head := 274) (44) (fun k H locs cells slots ls => cells = 0 ∧ slots = 0 ∧ va_P g.1 zCL (mW g ad (va_up (va_up fi_193 8 (nI 0)) 12 (nI 0)) (va_up cn_193 4 (nF (va_cpy (pbk T n).2.2.2.2 (S.2.1 4) 0 0 k))) xl) H ∧ va_D (mA ad s.heap.size) (mW g ad (va_up (va_up fi_193 8 (nI 0)) 12 (nI 0)) (va_up cn_193 4 (nF (va_cpy (pbk T n).2.2.2.2 (S.2.1 4) 0 0 k))) xl) ∧ va_S (mA ad s.heap.size) s.heap H locs ∧ lv_has ls 2 [(0, .ref (ad 0)), (1, .int (nI k))]) (fun k hv_k ih_274 H locs cells slots ls hI => ?_) 0 (Nat.zero_le _) ?_
                        · obtain ⟨rfl, rfl, hP, hD, hS, hl⟩ := hI
                          refine lv_iload_n hx hb dX3_book_274 rfl (lv_at hl 1 rfl) ?_
                          refine lv_bipush (v := nI 44) hx hb dX3_book_275 (by decide) ?_
                          refine zc_ge (tgt := 298) hx hb (by omega) (by omega) dX3_book_277 (by decide) (fun c_277 => ?_) (fun c_277 => ?_)
                          · obtain rfl : 44 = k := by omega
                            obtain ⟨hP, hD⟩ := hP.exi hD 4 (f' := nF (pbk T n).2.2.2.2) rfl (fun j hj => by show nI (va_cpy _ _ 0 0 44 j) = nI ((pbk T n).2.2.2.2 j); rw [zcpy_in (by omega) (by omega)]; rw [Nat.zero_add, Nat.sub_zero])
                            have hP : va_P g.1 zCL (mW g ad (va_up (va_up fi_193 8 (nI 0)) 12 (nI 0)) (va_up cn_193 4 (nF (pbk T n).2.2.2.2)) xl) _ := hP
                            have hD : va_D (mA ad s.heap.size) (mW g ad (va_up (va_up fi_193 8 (nI 0)) 12 (nI 0)) (va_up cn_193 4 (nF (pbk T n).2.2.2.2)) xl) := hD
                            refine lv_aload_n hx hb dX3_book_298 rfl (lv_at hl 0 rfl) ?_
                            refine va_get (D := g.1) (ci := 3) (v := .ref (ad 4)) (C := RX3) (T := TX3) (N := 30) hx hb hts in_X3 hown hK hP 0 rfl rfl 4 (by decide) (hts _ q1301) (fun _ h9 => h9) rfl dX3_book_299 ?_
                            refine lv_iconst (v := nI 0) hx hb dX3_book_302 (by decide) ?_
                            refine zald hx hb hK hP 4 0 rfl rfl (j := 0) (by omega) (by decide) dX3_book_303 ?_
                            refine zti (show (nF ((pbk T n).2.2.2.2)) 0 = nI (((pbk T n).2.2.2.2) 0) from rfl) ?_
                            exact W.iret (v := nI (((pbk T n).2.2.2.2) 0)) hx hb hr (fun t ht hW => ⟨⟨nI (((pbk T n).2.2.2.2) 0), (va_up (va_up fi_193 8 (nI 0)) 12 (nI 0), va_up cn_193 4 (nF (pbk T n).2.2.2.2), xl), rfl, (by unfold opBook; rw [hT11, hn12, zif_f c_248]; exact ⟨rfl, ⟨((hfr_R239 0 (by decide)).trans hf0), rfl, rfl, ((hfr_R239 19 (by decide)).trans hf19), ((hfr_R239 29 (by decide)).trans hf29), ((hcr_R239 1 (by decide)).trans hc1), ((hcr_R239 2 (by decide)).trans hc2), ((hcr_R239 3 (by decide)).trans hc3), rfl, ((hcr_R239 7 (by decide)).trans hc7), ((hcr_R239 11 (by decide)).trans hc11), ((hcr_R239 26 (by decide)).trans hc26), ((hcr_R239 27 (by decide)).trans hc27), ((hcr_R239 28 (by decide)).trans hc28)⟩, ⟨_, _, _, _, _, _, _, _, _, hq5_R239, ((hcr_R239 6 (by decide)).trans hc6), ((hcr_R239 9 (by decide)).trans hc9), ((hcr_R239 10 (by decide)).trans hc10), ((hcr_R239 24 (by decide)).trans hc24), ((hcr_R239 25 (by decide)).trans hc25), hc21, hc22, ((hfr_R239 23 (by decide)).trans hf23)⟩⟩), by rw [ht]; exact hP, hD⟩, hS.F ht⟩) hS.2.2 dX3_book_304
                          · refine lv_aload_n hx hb dX3_book_280 rfl (lv_at hl 0 rfl) ?_
                            refine va_get (D := g.1) (ci := 3) (v := .ref (ad 4)) (C := RX3) (T := TX3) (N := 30) hx hb hts in_X3 hown hK hP 0 rfl rfl 4 (by decide) (hts _ q1301) (fun _ h9 => h9) rfl dX3_book_281 ?_
                            refine lv_iload_n hx hb dX3_book_284 rfl (lv_at hl 1 rfl) ?_
                            refine lv_aload_n hx hb dX3_book_285 rfl (lv_at hl 0 rfl) ?_
                            refine va_get (D := g.1) (ci := 3) (v := .ref (ad 5)) (C := RX3) (T := TX3) (N := 30) hx hb hts in_X3 hown hK hP 0 rfl rfl 5 (by decide) (hts _ q1302) (fun _ h9 => h9) rfl dX3_book_286 ?_
                            refine lv_iload_n hx hb dX3_book_289 rfl (lv_at hl 1 rfl) ?_
                            refine zald hx hb hK hP 5 0 rfl rfl (j := k) (by omega) (by decide) dX3_book_290 ?_
                            refine zti (congrFun hq5_R239 _) ?_
                            refine zti (show (nF ((pbk T n).2.2.2.2)) k = nI (((pbk T n).2.2.2.2) k) from rfl) ?_
                            refine zast (f := nF (va_cpy (pbk T n).2.2.2.2 (S.2.1 4) 0 0 k)) hx hb hK hP hD hS 4 0 rfl rfl (j := k) (by omega) (by decide) dX3_book_291 (fun H locs hP hD hS => ?_)
                            rw [nF_up] at hP hD
                            have hP : va_P g.1 zCL (mW g ad (va_up (va_up fi_193 8 (nI 0)) 12 (nI 0)) (va_up cn_193 4 (nF (va_up (va_cpy (pbk T n).2.2.2.2 (S.2.1 4) 0 0 k) k (((pbk T n).2.2.2.2) k)))) xl) _ := hP
                            have hD : va_D (mA ad s.heap.size) (mW g ad (va_up (va_up fi_193 8 (nI 0)) 12 (nI 0)) (va_up cn_193 4 (nF (va_up (va_cpy (pbk T n).2.2.2.2 (S.2.1 4) 0 0 k) k (((pbk T n).2.2.2.2) k)))) xl) := hD
                            refine lv_iinc (v := nI (k + 1)) (lv' := [(1, .int (nI (k + 1))), (0, .ref (ad 0))]) hx hb dX3_book_292 hl (k := 1) rfl (nI_add k 1) (by decide) rfl (fun ls hl => ?_)
                            refine lv_goto (tgt := 274) hx hb dX3_book_295 (by decide) ?_
                            rw [show va_up (va_cpy (pbk T n).2.2.2.2 (S.2.1 4) 0 0 k) k ((pbk T n).2.2.2.2 k) = va_cpy (pbk T n).2.2.2.2 (S.2.1 4) 0 0 (k + 1) by have h9 := zcpy_s (pbk T n).2.2.2.2 (S.2.1 4) 0 0 k; rw [Nat.zero_add] at h9; exact h9] at hP hD
                            exact ih_274 (by omega) _ _ _ _ _ ⟨rfl, rfl, hP, hD, hS, lv_sub hl [1, 0] rfl⟩
                        · rw [mW_up (cn := cn_193) (k := 4) (f := nF (va_cpy (pbk T n).2.2.2.2 (S.2.1 4) 0 0 0)) (by rw [zcpy_0]; exact (hcr_R239 4 (by decide)).trans hc4)] at hP
                          rw [mW_up (cn := cn_193) (k := 4) (f := nF (va_cpy (pbk T n).2.2.2.2 (S.2.1 4) 0 0 0)) (by rw [zcpy_0]; exact (hcr_R239 4 (by decide)).trans hc4)] at hD
                          have hP : va_P g.1 zCL (mW g ad (va_up (va_up fi_193 8 (nI 0)) 12 (nI 0)) (va_up cn_193 4 (nF (va_cpy (pbk T n).2.2.2.2 (S.2.1 4) 0 0 0))) xl) _ := hP
                          have hD : va_D (mA ad s.heap.size) (mW g ad (va_up (va_up fi_193 8 (nI 0)) 12 (nI 0)) (va_up cn_193 4 (nF (va_cpy (pbk T n).2.2.2.2 (S.2.1 4) 0 0 0))) xl) := hD
                          exact ⟨rfl, rfl, hP, hD, hS, lv_sub hl [1, 0] rfl⟩
                      · refine lv_aload_n hx hb dX3_book_251 rfl (lv_at hl 0 rfl) ?_
                        refine lv_aload_n hx hb dX3_book_252 rfl (lv_at hl 0 rfl) ?_
                        refine va_get (D := g.1) (ci := 3) (v := .int (fi_193 17)) (C := RX3) (T := TX3) (N := 30) hx hb hts in_X3 hown hK hP 0 rfl rfl 17 (by decide) (hts _ q1314) (fun _ h9 => h9) rfl dX3_book_253 ?_
                        refine zti (hq17_R239) ?_
                        refine va_put (D := g.1) (ci := 3) (v := .int (nI ((pbk T n).2.1))) (ty := .int) (C := RX3) (T := TX3) (N := 30) hx hb hts in_X3 tyX3 tyX3_ok nmX3 hown hK hP hD hS 0 rfl rfl 19 (by decide) (hts _ q1316) (fun _ h9 => h9) rfl (by decide +kernel) rfl rfl (Nat.le_of_ble_eq_true rfl) dX3_book_256 (fun H locs hP hD hS => ?_)
                        have hP : va_P g.1 zCL (mW g ad (va_up (va_up fi_193 12 (nI 0)) 19 (nI ((pbk T n).2.1))) cn_193 xl) _ := hP
                        have hD : va_D (mA ad s.heap.size) (mW g ad (va_up (va_up fi_193 12 (nI 0)) 19 (nI ((pbk T n).2.1))) cn_193 xl) := hD
                        refine lv_ldc hx hb hown (hts _ q1466) dX3_book_259 ?_
                        refine lv_aload_n hx hb dX3_book_261 rfl (lv_at hl 0 rfl) ?_
                        refine va_get (D := g.1) (ci := 3) (v := .int (fi_193 18)) (C := RX3) (T := TX3) (N := 30) hx hb hts in_X3 hown hK hP 0 rfl rfl 18 (by decide) (hts _ q1315) (fun _ h9 => h9) rfl dX3_book_262 ?_
                        refine lv_isub hx hb dX3_book_265 ?_
                        exact W.iret (v := (-1000100) - (fi_193 18)) hx hb hr (fun t ht hW => ⟨⟨(-1000100) - (fi_193 18), (va_up (va_up fi_193 12 (nI 0)) 19 (nI ((pbk T n).2.1)), cn_193, xl), rfl, (by unfold opBook; rw [hT11, hn12, zif_t c_248]; exact ⟨(congrArg (fun z => -1000100 - z) (hq18_R239 c_248)), ⟨((hfr_R239 0 (by decide)).trans hf0), ((hfr_R239 8 (by decide)).trans hf8), rfl, rfl, ((hfr_R239 29 (by decide)).trans hf29), ((hcr_R239 1 (by decide)).trans hc1), ((hcr_R239 2 (by decide)).trans hc2), ((hcr_R239 3 (by decide)).trans hc3), ((hcr_R239 4 (by decide)).trans hc4), ((hcr_R239 7 (by decide)).trans hc7), ((hcr_R239 11 (by decide)).trans hc11), ((hcr_R239 26 (by decide)).trans hc26), ((hcr_R239 27 (by decide)).trans hc27), ((hcr_R239 28 (by decide)).trans hc28)⟩, ⟨_, _, _, _, _, _, _, _, _, hq5_R239, ((hcr_R239 6 (by decide)).trans hc6), ((hcr_R239 9 (by decide)).trans hc9), ((hcr_R239 10 (by decide)).trans hc10), ((hcr_R239 24 (by decide)).trans hc24), ((hcr_R239 25 (by decide)).trans hc25), hc21, hc22, ((hfr_R239 23 (by decide)).trans hf23)⟩⟩), by rw [ht]; exact hP, hD⟩, hS.F ht⟩) hS.2.2 dX3_book_266
                    · refine lv_aload_n hx hb dX3_book_234 rfl (lv_at hl 0 rfl) ?_
                      refine lv_iconst (v := nI 4) hx hb dX3_book_235 (by decide) ?_
                      have hle_236 := hS.1
                      refine va_callv (va_runV (As := [.int (nI 4)]) (rest := []) ⟨hx, hb, hml, hown, hts⟩ (m_X3_bad l g ad fi_193 cn_193 xl _ T n (pbk3 T n) (show PF T n (pbk3 T n) fi_193 cn_193 from ⟨hq13_R213, hq14_R213, hq15_R213, hq16_R213, hq17_R213, hq18_R213, hq20_R213, hq5_R213, hq12_R213, hq11_R213⟩) hO_R213 4 (by decide)) (cwV 1 hts (lw_V q1442 q1444 qs34 q69 q1445) rfl rfl rfl hdV_X3_bad ⟨Nat.le_of_ble_eq_true rfl, Nat.le_of_ble_eq_true rfl⟩) (zpreV hK hN (va_recv hK hP (ci := 3) (q0 := 0) rfl rfl) ⟨rfl, hP, hD.weaken (fun _ _ _ _ => trivial)⟩) rfl rfl hl.1 rfl (lv_room (Nat.le_of_ble_eq_true rfl)) dX3_book_236 ⟨Nat.le_of_ble_eq_true rfl, Nat.le_of_ble_eq_true rfl⟩) hS (fun q _ h => mA_le hS.1 q h) (mA_le hS.1) (fun u t H locs ht hvm hw_236 hB hzz hkk hS => ?_)
                      obtain ⟨hP, hD⟩ := hB
                      rw [ht] at hP
                      have hD := hD.weaken (fun _ _ _ h => mA_le hle_236 _ h)
                      obtain ⟨fi_239, cn_239, xl_239⟩ := u
                      obtain ⟨_, hPF_239, hO_239, hxl_239, hfr_239, hcr_239⟩ := hw_236
                      have hxl_239 : xl = xl_239 := hxl_239.symm
                      subst hxl_239
                      have hPF_239 : PF T n (pbad 4 (pbk3 T n)) fi_239 cn_239 := hPF_239
                      have hO_239 : PO T n (pbad 4 (pbk3 T n)) := hO_239
                      have ho__239 := hO_239
                      obtain ⟨ho1_239, _, _, ho4_239, ho16_239, hoF_239⟩ := ho__239
                      have he13_239 := tkE_le (T := T) ho1_239
                      have hk15_239 := tkK_le T n (pbad 4 (pbk3 T n)).1
                      obtain ⟨hq13_239, hq14_239, hq15_239, hq16_239, hq17_239, hq18_239, hq20_239, hq5_239, hq12_239, hq11_239⟩ := hPF_239
                      have hfr_239 : ∀ k, (k < 13 ∨ 20 < k ∨ k = 19) → fi_239 k = fi k := fun k hk => (hfr_239 k hk).trans (hfr_R213 k hk)
                      have hcr_239 : ∀ k, k ≠ 5 → cn_239 k = cn k := fun k hk => (hcr_239 k hk).trans (hcr_R213 k hk)
                      have hP : va_P g.1 zCL (mW g ad fi_239 cn_239 xl) _ := hP
                      have hD : va_D (mA ad s.heap.size) (mW g ad fi_239 cn_239 xl) := hD
                      have hPF_R239 : PF T n (pbk T n) fi_239 cn_239 := (by rw [show pbk T n = pbad 4 (pbk3 T n) from zif_f c_231]; exact ⟨hq13_239, hq14_239, hq15_239, hq16_239, hq17_239, hq18_239, hq20_239, hq5_239, hq12_239, hq11_239⟩)
                      have hO_R239 : PO T n (pbk T n) := (by rw [show pbk T n = pbad 4 (pbk3 T n) from zif_f c_231]; exact hO_239)
                      have ho__R239 := hO_R239
                      obtain ⟨ho1_R239, _, _, ho4_R239, ho16_R239, hoF_R239⟩ := ho__R239
                      have he13_R239 := tkE_le (T := T) ho1_R239
                      have hk15_R239 := tkK_le T n (pbk T n).1
                      obtain ⟨hq13_R239, hq14_R239, hq15_R239, hq16_R239, hq17_R239, hq18_R239, hq20_R239, hq5_R239, hq12_R239, hq11_R239⟩ := hPF_R239
                      have hfr_R239 := hfr_239
                      have hcr_R239 := hcr_239
                      refine lv_aload_n hx hb dX3_book_239 rfl (lv_at hl 0 rfl) ?_
                      refine lv_iconst (v := nI 0) hx hb dX3_book_240 (by decide) ?_
                      refine va_put (D := g.1) (ci := 3) (v := .int (nI 0)) (ty := .int) (C := RX3) (T := TX3) (N := 30) hx hb hts in_X3 tyX3 tyX3_ok nmX3 hown hK hP hD hS 0 rfl rfl 12 (by decide) (hts _ q1309) (fun _ h9 => h9) rfl (by decide +kernel) rfl rfl (Nat.le_of_ble_eq_true rfl) dX3_book_241 (fun H locs hP hD hS => ?_)
                      have hP : va_P g.1 zCL (mW g ad (va_up fi_239 12 (nI 0)) cn_239 xl) _ := hP
                      have hD : va_D (mA ad s.heap.size) (mW g ad (va_up fi_239 12 (nI 0)) cn_239 xl) := hD
                      refine lv_aload_n hx hb dX3_book_244 rfl (lv_at hl 0 rfl) ?_
                      refine va_get (D := g.1) (ci := 3) (v := .int (fi_239 17)) (C := RX3) (T := TX3) (N := 30) hx hb hts in_X3 hown hK hP 0 rfl rfl 17 (by decide) (hts _ q1314) (fun _ h9 => h9) rfl dX3_book_245 ?_
                      refine zti (hq17_R239) ?_
                      refine zi_le (tgt := 267) hx hb (by omega) dX3_book_248 (by decide) (fun c_248 => ?_) (fun c_248 => ?_)
                      · refine lv_aload_n hx hb dX3_book_267 rfl (lv_at hl 0 rfl) ?_
                        refine lv_iconst (v := nI 0) hx hb dX3_book_268 (by decide) ?_
                        refine va_put (D := g.1) (ci := 3) (v := .int (nI 0)) (ty := .int) (C := RX3) (T := TX3) (N := 30) hx hb hts in_X3 tyX3 tyX3_ok nmX3 hown hK hP hD hS 0 rfl rfl 8 (by decide) (hts _ q1305) (fun _ h9 => h9) rfl (by decide +kernel) rfl rfl (Nat.le_of_ble_eq_true rfl) dX3_book_269 (fun H locs hP hD hS => ?_)
                        have hP : va_P g.1 zCL (mW g ad (va_up (va_up fi_239 8 (nI 0)) 12 (nI 0)) cn_239 xl) _ := hP
                        have hD : va_D (mA ad s.heap.size) (mW g ad (va_up (va_up fi_239 8 (nI 0)) 12 (nI 0)) cn_239 xl) := hD
                        refine lv_iconst (v := nI 0) hx hb dX3_book_272 (by decide) ?_
                        refine lv_istore_n (lv' := [(1, .int (nI 0)), (0, .ref (ad 0))]) hx hb dX3_book_273 rfl hl (by decide) rfl (fun ls hl => ?_)
                        refine zloopW (head := 274) (44) (fun k H locs cells slots ls => cells = 0 ∧ slots = 0 ∧ va_P g.1 zCL (mW g ad (va_up (va_up fi_239 8 (nI 0)) 12 (nI 0)) (va_up cn_239 4 (nF (va_cpy (pbk T n).2.2.2.2 (S.2.1 4) 0 0 k))) xl) H ∧ va_D (mA ad s.heap.size) (mW g ad (va_up (va_up fi_239 8 (nI 0)) 12 (nI 0)) (va_up cn_239 4 (nF (va_cpy (pbk T n).2.2.2.2 (S.2.1 4) 0 0 k))) xl) ∧ va_S (mA ad s.heap.size) s.heap H locs ∧ lv_has ls 2 [(0, .ref (ad 0)), (1, .int (nI k))]) (fun k hv_k ih_274 H locs cells slots ls hI => ?_) 0 (Nat.zero_le _) ?_
                        · obtain ⟨rfl, rfl, hP, hD, hS, hl⟩ := hI
                          refine lv_iload_n hx hb dX3_book_274 rfl (lv_at hl 1 rfl) ?_
                          refine lv_bipush (v := nI 44) hx hb dX3_book_275 (by decide) ?_
                          refine zc_ge (tgt := 298) hx hb (by omega) (by omega) dX3_book_277 (by decide) (fun c_277 => ?_) (fun c_277 => ?_)
                          · obtain rfl : 44 = k := by omega
                            obtain ⟨hP, hD⟩ := hP.exi hD 4 (f' := nF (pbk T n).2.2.2.2) rfl (fun j hj => by show nI (va_cpy _ _ 0 0 44 j) = nI ((pbk T n).2.2.2.2 j); rw [zcpy_in (by omega) (by omega)]; rw [Nat.zero_add, Nat.sub_zero])
                            have hP : va_P g.1 zCL (mW g ad (va_up (va_up fi_239 8 (nI 0)) 12 (nI 0)) (va_up cn_239 4 (nF (pbk T n).2.2.2.2)) xl) _ := hP
                            have hD : va_D (mA ad s.heap.size) (mW g ad (va_up (va_up fi_239 8 (nI 0)) 12 (nI 0)) (va_up cn_239 4 (nF (pbk T n).2.2.2.2)) xl) := hD
                            refine lv_aload_n hx hb dX3_book_298 rfl (lv_at hl 0 rfl) ?_
                            refine va_get (D := g.1) (ci := 3) (v := .ref (ad 4)) (C := RX3) (T := TX3) (N := 30) hx hb hts in_X3 hown hK hP 0 rfl rfl 4 (by decide) (hts _ q1301) (fun _ h9 => h9) rfl dX3_book_299 ?_
                            refine lv_iconst (v := nI 0) hx hb dX3_book_302 (by decide) ?_
                            refine zald hx hb hK hP 4 0 rfl rfl (j := 0) (by omega) (by decide) dX3_book_303 ?_
                            refine zti (show (nF ((pbk T n).2.2.2.2)) 0 = nI (((pbk T n).2.2.2.2) 0) from rfl) ?_
                            exact W.iret (v := nI (((pbk T n).2.2.2.2) 0)) hx hb hr (fun t ht hW => ⟨⟨nI (((pbk T n).2.2.2.2) 0), (va_up (va_up fi_239 8 (nI 0)) 12 (nI 0), va_up cn_239 4 (nF (pbk T n).2.2.2.2), xl), rfl, (by unfold opBook; rw [hT11, hn12, zif_f c_248]; exact ⟨rfl, ⟨((hfr_R239 0 (by decide)).trans hf0), rfl, rfl, ((hfr_R239 19 (by decide)).trans hf19), ((hfr_R239 29 (by decide)).trans hf29), ((hcr_R239 1 (by decide)).trans hc1), ((hcr_R239 2 (by decide)).trans hc2), ((hcr_R239 3 (by decide)).trans hc3), rfl, ((hcr_R239 7 (by decide)).trans hc7), ((hcr_R239 11 (by decide)).trans hc11), ((hcr_R239 26 (by decide)).trans hc26), ((hcr_R239 27 (by decide)).trans hc27), ((hcr_R239 28 (by decide)).trans hc28)⟩, ⟨_, _, _, _, _, _, _, _, _, hq5_R239, ((hcr_R239 6 (by decide)).trans hc6), ((hcr_R239 9 (by decide)).trans hc9), ((hcr_R239 10 (by decide)).trans hc10), ((hcr_R239 24 (by decide)).trans hc24), ((hcr_R239 25 (by decide)).trans hc25), hc21, hc22, ((hfr_R239 23 (by decide)).trans hf23)⟩⟩), by rw [ht]; exact hP, hD⟩, hS.F ht⟩) hS.2.2 dX3_book_304
                          · refine lv_aload_n hx hb dX3_book_280 rfl (lv_at hl 0 rfl) ?_
                            refine va_get (D := g.1) (ci := 3) (v := .ref (ad 4)) (C := RX3) (T := TX3) (N := 30) hx hb hts in_X3 hown hK hP 0 rfl rfl 4 (by decide) (hts _ q1301) (fun _ h9 => h9) rfl dX3_book_281 ?_
                            refine lv_iload_n hx hb dX3_book_284 rfl (lv_at hl 1 rfl) ?_
                            refine lv_aload_n hx hb dX3_book_285 rfl (lv_at hl 0 rfl) ?_
                            refine va_get (D := g.1) (ci := 3) (v := .ref (ad 5)) (C := RX3) (T := TX3) (N := 30) hx hb hts in_X3 hown hK hP 0 rfl rfl 5 (by decide) (hts _ q1302) (fun _ h9 => h9) rfl dX3_book_286 ?_
                            refine lv_iload_n hx hb dX3_book_289 rfl (lv_at hl 1 rfl) ?_
                            refine zald hx hb hK hP 5 0 rfl rfl (j := k) (by omega) (by decide) dX3_book_290 ?_
                            refine zti (congrFun hq5_R239 _) ?_
                            refine zti (show (nF ((pbk T n).2.2.2.2)) k = nI (((pbk T n).2.2.2.2) k) from rfl) ?_
                            refine zast (f := nF (va_cpy (pbk T n).2.2.2.2 (S.2.1 4) 0 0 k)) hx hb hK hP hD hS 4 0 rfl rfl (j := k) (by omega) (by decide) dX3_book_291 (fun H locs hP hD hS => ?_)
                            rw [nF_up] at hP hD
                            have hP : va_P g.1 zCL (mW g ad (va_up (va_up fi_239 8 (nI 0)) 12 (nI 0)) (va_up cn_239 4 (nF (va_up (va_cpy (pbk T n).2.2.2.2 (S.2.1 4) 0 0 k) k (((pbk T n).2.2.2.2) k)))) xl) _ := hP
                            have hD : va_D (mA ad s.heap.size) (mW g ad (va_up (va_up fi_239 8 (nI 0)) 12 (nI 0)) (va_up cn_239 4 (nF (va_up (va_cpy (pbk T n).2.2.2.2 (S.2.1 4) 0 0 k) k (((pbk T n).2.2.2.2) k)))) xl) := hD
                            refine lv_iinc (v := nI (k + 1)) (lv' := [(1, .int (nI (k + 1))), (0, .ref (ad 0))]) hx hb dX3_book_292 hl (k := 1) rfl (nI_add k 1) (by decide) rfl (fun ls hl => ?_)
                            refine lv_goto (tgt := 274) hx hb dX3_book_295 (by decide) ?_
                            rw [show va_up (va_cpy (pbk T n).2.2.2.2 (S.2.1 4) 0 0 k) k ((pbk T n).2.2.2.2 k) = va_cpy (pbk T n).2.2.2.2 (S.2.1 4) 0 0 (k + 1) by have h9 := zcpy_s (pbk T n).2.2.2.2 (S.2.1 4) 0 0 k; rw [Nat.zero_add] at h9; exact h9] at hP hD
                            exact ih_274 (by omega) _ _ _ _ _ ⟨rfl, rfl, hP, hD, hS, lv_sub hl [1, 0] rfl⟩
                        · rw [mW_up (cn := cn_239) (k := 4) (f := nF (va_cpy (pbk T n).2.2.2.2 (S.2.1 4) 0 0 0)) (by rw [zcpy_0]; exact (hcr_R239 4 (by decide)).trans hc4)] at hP
                          rw [mW_up (cn := cn_239) (k := 4) (f := nF (va_cpy (pbk T n).2.2.2.2 (S.2.1 4) 0 0 0)) (by rw [zcpy_0]; exact (hcr_R239 4 (by decide)).trans hc4)] at hD
                          have hP : va_P g.1 zCL (mW g ad (va_up (va_up fi_239 8 (nI 0)) 12 (nI 0)) (va_up cn_239 4 (nF (va_cpy (pbk T n).2.2.2.2 (S.2.1 4) 0 0 0))) xl) _ := hP
                          have hD : va_D (mA ad s.heap.size) (mW g ad (va_up (va_up fi_239 8 (nI 0)) 12 (nI 0)) (va_up cn_239 4 (nF (va_cpy (pbk T n).2.2.2.2 (S.2.1 4) 0 0 0))) xl) := hD
                          exact ⟨rfl, rfl, hP, hD, hS, lv_sub hl [1, 0] rfl⟩
                      · refine lv_aload_n hx hb dX3_book_251 rfl (lv_at hl 0 rfl) ?_
                        refine lv_aload_n hx hb dX3_book_252 rfl (lv_at hl 0 rfl) ?_
                        refine va_get (D := g.1) (ci := 3) (v := .int (fi_239 17)) (C := RX3) (T := TX3) (N := 30) hx hb hts in_X3 hown hK hP 0 rfl rfl 17 (by decide) (hts _ q1314) (fun _ h9 => h9) rfl dX3_book_253 ?_
                        refine zti (hq17_R239) ?_
                        refine va_put (D := g.1) (ci := 3) (v := .int (nI ((pbk T n).2.1))) (ty := .int) (C := RX3) (T := TX3) (N := 30) hx hb hts in_X3 tyX3 tyX3_ok nmX3 hown hK hP hD hS 0 rfl rfl 19 (by decide) (hts _ q1316) (fun _ h9 => h9) rfl (by decide +kernel) rfl rfl (Nat.le_of_ble_eq_true rfl) dX3_book_256 (fun H locs hP hD hS => ?_)
                        have hP : va_P g.1 zCL (mW g ad (va_up (va_up fi_239 12 (nI 0)) 19 (nI ((pbk T n).2.1))) cn_239 xl) _ := hP
                        have hD : va_D (mA ad s.heap.size) (mW g ad (va_up (va_up fi_239 12 (nI 0)) 19 (nI ((pbk T n).2.1))) cn_239 xl) := hD
                        refine lv_ldc hx hb hown (hts _ q1466) dX3_book_259 ?_
                        refine lv_aload_n hx hb dX3_book_261 rfl (lv_at hl 0 rfl) ?_
                        refine va_get (D := g.1) (ci := 3) (v := .int (fi_239 18)) (C := RX3) (T := TX3) (N := 30) hx hb hts in_X3 hown hK hP 0 rfl rfl 18 (by decide) (hts _ q1315) (fun _ h9 => h9) rfl dX3_book_262 ?_
                        refine lv_isub hx hb dX3_book_265 ?_
                        exact W.iret (v := (-1000100) - (fi_239 18)) hx hb hr (fun t ht hW => ⟨⟨(-1000100) - (fi_239 18), (va_up (va_up fi_239 12 (nI 0)) 19 (nI ((pbk T n).2.1)), cn_239, xl), rfl, (by unfold opBook; rw [hT11, hn12, zif_t c_248]; exact ⟨(congrArg (fun z => -1000100 - z) (hq18_R239 c_248)), ⟨((hfr_R239 0 (by decide)).trans hf0), ((hfr_R239 8 (by decide)).trans hf8), rfl, rfl, ((hfr_R239 29 (by decide)).trans hf29), ((hcr_R239 1 (by decide)).trans hc1), ((hcr_R239 2 (by decide)).trans hc2), ((hcr_R239 3 (by decide)).trans hc3), ((hcr_R239 4 (by decide)).trans hc4), ((hcr_R239 7 (by decide)).trans hc7), ((hcr_R239 11 (by decide)).trans hc11), ((hcr_R239 26 (by decide)).trans hc26), ((hcr_R239 27 (by decide)).trans hc27), ((hcr_R239 28 (by decide)).trans hc28)⟩, ⟨_, _, _, _, _, _, _, _, _, hq5_R239, ((hcr_R239 6 (by decide)).trans hc6), ((hcr_R239 9 (by decide)).trans hc9), ((hcr_R239 10 (by decide)).trans hc10), ((hcr_R239 24 (by decide)).trans hc24), ((hcr_R239 25 (by decide)).trans hc25), hc21, hc22, ((hfr_R239 23 (by decide)).trans hf23)⟩⟩), by rw [ht]; exact hP, hD⟩, hS.F ht⟩) hS.2.2 dX3_book_266
                · refine lv_aload_n hx hb dX3_book_200 rfl (lv_at hl 0 rfl) ?_
                  refine va_get (D := g.1) (ci := 3) (v := .int (fi_193 15)) (C := RX3) (T := TX3) (N := 30) hx hb hts in_X3 hown hK hP 0 rfl rfl 15 (by decide) (hts _ q1312) (fun _ h9 => h9) rfl dX3_book_201 ?_
                  refine zti (hq15_R193) ?_
                  refine lv_iconst (v := nI 1) hx hb dX3_book_204 (by decide) ?_
                  refine zc_eq (tgt := 213) hx hb (by omega) (by omega) dX3_book_205 (by decide) (fun c_205 => ?_) (fun c_205 => ?_)
                  · have hPF_R213 : PF T n (pbk3 T n) fi_193 cn_193 := (by rw [show pbk3 T n = pbk2 T n from zif_t c_205]; exact ⟨hq13_R193, hq14_R193, hq15_R193, hq16_R193, hq17_R193, hq18_R193, hq20_R193, hq5_R193, hq12_R193, hq11_R193⟩)
                    have hO_R213 : PO T n (pbk3 T n) := (by rw [show pbk3 T n = pbk2 T n from zif_t c_205]; exact hO_R193)
                    have ho__R213 := hO_R213
                    obtain ⟨ho1_R213, _, _, ho4_R213, ho16_R213, hoF_R213⟩ := ho__R213
                    have he13_R213 := tkE_le (T := T) ho1_R213
                    have hk15_R213 := tkK_le T n (pbk3 T n).1
                    obtain ⟨hq13_R213, hq14_R213, hq15_R213, hq16_R213, hq17_R213, hq18_R213, hq20_R213, hq5_R213, hq12_R213, hq11_R213⟩ := hPF_R213
                    have hfr_R213 := hfr_R193
                    have hcr_R213 := hcr_R193
                    refine lv_aload_n hx hb dX3_book_213 rfl (lv_at hl 0 rfl) ?_
                    refine va_get (D := g.1) (ci := 3) (v := .int (fi_193 17)) (C := RX3) (T := TX3) (N := 30) hx hb hts in_X3 hown hK hP 0 rfl rfl 17 (by decide) (hts _ q1314) (fun _ h9 => h9) rfl dX3_book_214 ?_
                    refine zti (hq17_R213) ?_
                    refine zi_ne (tgt := 239) hx hb (by omega) dX3_book_217 (by decide) (fun c_217 => ?_) (fun c_217 => ?_)
                    · have hPF_R239 : PF T n (pbk T n) fi_193 cn_193 := (by rw [show pbk T n = pbk3 T n from zif_same (pbad_id c_217)]; exact ⟨hq13_R213, hq14_R213, hq15_R213, hq16_R213, hq17_R213, hq18_R213, hq20_R213, hq5_R213, hq12_R213, hq11_R213⟩)
                      have hO_R239 : PO T n (pbk T n) := (by rw [show pbk T n = pbk3 T n from zif_same (pbad_id c_217)]; exact hO_R213)
                      have ho__R239 := hO_R239
                      obtain ⟨ho1_R239, _, _, ho4_R239, ho16_R239, hoF_R239⟩ := ho__R239
                      have he13_R239 := tkE_le (T := T) ho1_R239
                      have hk15_R239 := tkK_le T n (pbk T n).1
                      obtain ⟨hq13_R239, hq14_R239, hq15_R239, hq16_R239, hq17_R239, hq18_R239, hq20_R239, hq5_R239, hq12_R239, hq11_R239⟩ := hPF_R239
                      have hfr_R239 := hfr_R213
                      have hcr_R239 := hcr_R213
                      refine lv_aload_n hx hb dX3_book_239 rfl (lv_at hl 0 rfl) ?_
                      refine lv_iconst (v := nI 0) hx hb dX3_book_240 (by decide) ?_
                      refine va_put (D := g.1) (ci := 3) (v := .int (nI 0)) (ty := .int) (C := RX3) (T := TX3) (N := 30) hx hb hts in_X3 tyX3 tyX3_ok nmX3 hown hK hP hD hS 0 rfl rfl 12 (by decide) (hts _ q1309) (fun _ h9 => h9) rfl (by decide +kernel) rfl rfl (Nat.le_of_ble_eq_true rfl) dX3_book_241 (fun H locs hP hD hS => ?_)
                      have hP : va_P g.1 zCL (mW g ad (va_up fi_193 12 (nI 0)) cn_193 xl) _ := hP
                      have hD : va_D (mA ad s.heap.size) (mW g ad (va_up fi_193 12 (nI 0)) cn_193 xl) := hD
                      refine lv_aload_n hx hb dX3_book_244 rfl (lv_at hl 0 rfl) ?_
                      refine va_get (D := g.1) (ci := 3) (v := .int (fi_193 17)) (C := RX3) (T := TX3) (N := 30) hx hb hts in_X3 hown hK hP 0 rfl rfl 17 (by decide) (hts _ q1314) (fun _ h9 => h9) rfl dX3_book_245 ?_
                      refine zti (hq17_R239) ?_
                      refine zi_le (tgt := 267) hx hb (by omega) dX3_book_248 (by decide) (fun c_248 => ?_) (fun c_248 => ?_)
                      · refine lv_aload_n hx hb dX3_book_267 rfl (lv_at hl 0 rfl) ?_
                        refine lv_iconst (v := nI 0) hx hb dX3_book_268 (by decide) ?_
                        refine va_put (D := g.1) (ci := 3) (v := .int (nI 0)) (ty := .int) (C := RX3) (T := TX3) (N := 30) hx hb hts in_X3 tyX3 tyX3_ok nmX3 hown hK hP hD hS 0 rfl rfl 8 (by decide) (hts _ q1305) (fun _ h9 => h9) rfl (by decide +kernel) rfl rfl (Nat.le_of_ble_eq_true rfl) dX3_book_269 (fun H locs hP hD hS => ?_)
                        have hP : va_P g.1 zCL (mW g ad (va_up (va_up fi_193 8 (nI 0)) 12 (nI 0)) cn_193 xl) _ := hP
                        have hD : va_D (mA ad s.heap.size) (mW g ad (va_up (va_up fi_193 8 (nI 0)) 12 (nI 0)) cn_193 xl) := hD
                        refine lv_iconst (v := nI 0) hx hb dX3_book_272 (by decide) ?_
                        refine lv_istore_n (lv' := [(1, .int (nI 0)), (0, .ref (ad 0))]) hx hb dX3_book_273 rfl hl (by decide) rfl (fun ls hl => ?_)
                        refine zloopW (head := 274) (44) (fun k H locs cells slots ls => cells = 0 ∧ slots = 0 ∧ va_P g.1 zCL (mW g ad (va_up (va_up fi_193 8 (nI 0)) 12 (nI 0)) (va_up cn_193 4 (nF (va_cpy (pbk T n).2.2.2.2 (S.2.1 4) 0 0 k))) xl) H ∧ va_D (mA ad s.heap.size) (mW g ad (va_up (va_up fi_193 8 (nI 0)) 12 (nI 0)) (va_up cn_193 4 (nF (va_cpy (pbk T n).2.2.2.2 (S.2.1 4) 0 0 k))) xl) ∧ va_S (mA ad s.heap.size) s.heap H locs ∧ lv_has ls 2 [(0, .ref (ad 0)), (1, .int (nI k))]) (fun k hv_k ih_274 H locs cells slots ls hI => ?_) 0 (Nat.zero_le _) ?_
                        · obtain ⟨rfl, rfl, hP, hD, hS, hl⟩ := hI
                          refine lv_iload_n hx hb dX3_book_274 rfl (lv_at hl 1 rfl) ?_
                          refine lv_bipush (v := nI 44) hx hb dX3_book_275 (by decide) ?_
                          refine zc_ge (tgt := 298) hx hb (by omega) (by omega) dX3_book_277 (by decide) (fun c_277 => ?_) (fun c_277 => ?_)
                          · obtain rfl : 44 = k := by omega
                            obtain ⟨hP, hD⟩ := hP.exi hD 4 (f' := nF (pbk T n).2.2.2.2) rfl (fun j hj => by show nI (va_cpy _ _ 0 0 44 j) = nI ((pbk T n).2.2.2.2 j); rw [zcpy_in (by omega) (by omega)]; rw [Nat.zero_add, Nat.sub_zero])
                            have hP : va_P g.1 zCL (mW g ad (va_up (va_up fi_193 8 (nI 0)) 12 (nI 0)) (va_up cn_193 4 (nF (pbk T n).2.2.2.2)) xl) _ := hP
                            have hD : va_D (mA ad s.heap.size) (mW g ad (va_up (va_up fi_193 8 (nI 0)) 12 (nI 0)) (va_up cn_193 4 (nF (pbk T n).2.2.2.2)) xl) := hD
                            refine lv_aload_n hx hb dX3_book_298 rfl (lv_at hl 0 rfl) ?_
                            refine va_get (D := g.1) (ci := 3) (v := .ref (ad 4)) (C := RX3) (T := TX3) (N := 30) hx hb hts in_X3 hown hK hP 0 rfl rfl 4 (by decide) (hts _ q1301) (fun _ h9 => h9) rfl dX3_book_299 ?_
                            refine lv_iconst (v := nI 0) hx hb dX3_book_302 (by decide) ?_
                            refine zald hx hb hK hP 4 0 rfl rfl (j := 0) (by omega) (by decide) dX3_book_303 ?_
                            refine zti (show (nF ((pbk T n).2.2.2.2)) 0 = nI (((pbk T n).2.2.2.2) 0) from rfl) ?_
                            exact W.iret (v := nI (((pbk T n).2.2.2.2) 0)) hx hb hr (fun t ht hW => ⟨⟨nI (((pbk T n).2.2.2.2) 0), (va_up (va_up fi_193 8 (nI 0)) 12 (nI 0), va_up cn_193 4 (nF (pbk T n).2.2.2.2), xl), rfl, (by unfold opBook; rw [hT11, hn12, zif_f c_248]; exact ⟨rfl, ⟨((hfr_R239 0 (by decide)).trans hf0), rfl, rfl, ((hfr_R239 19 (by decide)).trans hf19), ((hfr_R239 29 (by decide)).trans hf29), ((hcr_R239 1 (by decide)).trans hc1), ((hcr_R239 2 (by decide)).trans hc2), ((hcr_R239 3 (by decide)).trans hc3), rfl, ((hcr_R239 7 (by decide)).trans hc7), ((hcr_R239 11 (by decide)).trans hc11), ((hcr_R239 26 (by decide)).trans hc26), ((hcr_R239 27 (by decide)).trans hc27), ((hcr_R239 28 (by decide)).trans hc28)⟩, ⟨_, _, _, _, _, _, _, _, _, hq5_R239, ((hcr_R239 6 (by decide)).trans hc6), ((hcr_R239 9 (by decide)).trans hc9), ((hcr_R239 10 (by decide)).trans hc10), ((hcr_R239 24 (by decide)).trans hc24), ((hcr_R239 25 (by decide)).trans hc25), hc21, hc22, ((hfr_R239 23 (by decide)).trans hf23)⟩⟩), by rw [ht]; exact hP, hD⟩, hS.F ht⟩) hS.2.2 dX3_book_304
                          · refine lv_aload_n hx hb dX3_book_280 rfl (lv_at hl 0 rfl) ?_
                            refine va_get (D := g.1) (ci := 3) (v := .ref (ad 4)) (C := RX3) (T := TX3) (N := 30) hx hb hts in_X3 hown hK hP 0 rfl rfl 4 (by decide) (hts _ q1301) (fun _ h9 => h9) rfl dX3_book_281 ?_
                            refine lv_iload_n hx hb dX3_book_284 rfl (lv_at hl 1 rfl) ?_
                            refine lv_aload_n hx hb dX3_book_285 rfl (lv_at hl 0 rfl) ?_
                            refine va_get (D := g.1) (ci := 3) (v := .ref (ad 5)) (C := RX3) (T := TX3) (N := 30) hx hb hts in_X3 hown hK hP 0 rfl rfl 5 (by decide) (hts _ q1302) (fun _ h9 => h9) rfl dX3_book_286 ?_
                            refine lv_iload_n hx hb dX3_book_289 rfl (lv_at hl 1 rfl) ?_
                            refine zald hx hb hK hP 5 0 rfl rfl (j := k) (by omega) (by decide) dX3_book_290 ?_
                            refine zti (congrFun hq5_R239 _) ?_
                            refine zti (show (nF ((pbk T n).2.2.2.2)) k = nI (((pbk T n).2.2.2.2) k) from rfl) ?_
                            refine zast (f := nF (va_cpy (pbk T n).2.2.2.2 (S.2.1 4) 0 0 k)) hx hb hK hP hD hS 4 0 rfl rfl (j := k) (by omega) (by decide) dX3_book_291 (fun H locs hP hD hS => ?_)
                            rw [nF_up] at hP hD
                            have hP : va_P g.1 zCL (mW g ad (va_up (va_up fi_193 8 (nI 0)) 12 (nI 0)) (va_up cn_193 4 (nF (va_up (va_cpy (pbk T n).2.2.2.2 (S.2.1 4) 0 0 k) k (((pbk T n).2.2.2.2) k)))) xl) _ := hP
                            have hD : va_D (mA ad s.heap.size) (mW g ad (va_up (va_up fi_193 8 (nI 0)) 12 (nI 0)) (va_up cn_193 4 (nF (va_up (va_cpy (pbk T n).2.2.2.2 (S.2.1 4) 0 0 k) k (((pbk T n).2.2.2.2) k)))) xl) := hD
                            refine lv_iinc (v := nI (k + 1)) (lv' := [(1, .int (nI (k + 1))), (0, .ref (ad 0))]) hx hb dX3_book_292 hl (k := 1) rfl (nI_add k 1) (by decide) rfl (fun ls hl => ?_)
                            refine lv_goto (tgt := 274) hx hb dX3_book_295 (by decide) ?_
                            rw [show va_up (va_cpy (pbk T n).2.2.2.2 (S.2.1 4) 0 0 k) k ((pbk T n).2.2.2.2 k) = va_cpy (pbk T n).2.2.2.2 (S.2.1 4) 0 0 (k + 1) by have h9 := zcpy_s (pbk T n).2.2.2.2 (S.2.1 4) 0 0 k; rw [Nat.zero_add] at h9; exact h9] at hP hD
                            exact ih_274 (by omega) _ _ _ _ _ ⟨rfl, rfl, hP, hD, hS, lv_sub hl [1, 0] rfl⟩
                        · rw [mW_up (cn := cn_193) (k := 4) (f := nF (va_cpy (pbk T n).2.2.2.2 (S.2.1 4) 0 0 0)) (by rw [zcpy_0]; exact (hcr_R239 4 (by decide)).trans hc4)] at hP
                          rw [mW_up (cn := cn_193) (k := 4) (f := nF (va_cpy (pbk T n).2.2.2.2 (S.2.1 4) 0 0 0)) (by rw [zcpy_0]; exact (hcr_R239 4 (by decide)).trans hc4)] at hD
                          have hP : va_P g.1 zCL (mW g ad (va_up (va_up fi_193 8 (nI 0)) 12 (nI 0)) (va_up cn_193 4 (nF (va_cpy (pbk T n).2.2.2.2 (S.2.1 4) 0 0 0))) xl) _ := hP
                          have hD : va_D (mA ad s.heap.size) (mW g ad (va_up (va_up fi_193 8 (nI 0)) 12 (nI 0)) (va_up cn_193 4 (nF (va_cpy (pbk T n).2.2.2.2 (S.2.1 4) 0 0 0))) xl) := hD
                          exact ⟨rfl, rfl, hP, hD, hS, lv_sub hl [1, 0] rfl⟩
                      · refine lv_aload_n hx hb dX3_book_251 rfl (lv_at hl 0 rfl) ?_
                        refine lv_aload_n hx hb dX3_book_252 rfl (lv_at hl 0 rfl) ?_
                        refine va_get (D := g.1) (ci := 3) (v := .int (fi_193 17)) (C := RX3) (T := TX3) (N := 30) hx hb hts in_X3 hown hK hP 0 rfl rfl 17 (by decide) (hts _ q1314) (fun _ h9 => h9) rfl dX3_book_253 ?_
                        refine zti (hq17_R239) ?_
                        refine va_put (D := g.1) (ci := 3) (v := .int (nI ((pbk T n).2.1))) (ty := .int) (C := RX3) (T := TX3) (N := 30) hx hb hts in_X3 tyX3 tyX3_ok nmX3 hown hK hP hD hS 0 rfl rfl 19 (by decide) (hts _ q1316) (fun _ h9 => h9) rfl (by decide +kernel) rfl rfl (Nat.le_of_ble_eq_true rfl) dX3_book_256 (fun H locs hP hD hS => ?_)
                        have hP : va_P g.1 zCL (mW g ad (va_up (va_up fi_193 12 (nI 0)) 19 (nI ((pbk T n).2.1))) cn_193 xl) _ := hP
                        have hD : va_D (mA ad s.heap.size) (mW g ad (va_up (va_up fi_193 12 (nI 0)) 19 (nI ((pbk T n).2.1))) cn_193 xl) := hD
                        refine lv_ldc hx hb hown (hts _ q1466) dX3_book_259 ?_
                        refine lv_aload_n hx hb dX3_book_261 rfl (lv_at hl 0 rfl) ?_
                        refine va_get (D := g.1) (ci := 3) (v := .int (fi_193 18)) (C := RX3) (T := TX3) (N := 30) hx hb hts in_X3 hown hK hP 0 rfl rfl 18 (by decide) (hts _ q1315) (fun _ h9 => h9) rfl dX3_book_262 ?_
                        refine lv_isub hx hb dX3_book_265 ?_
                        exact W.iret (v := (-1000100) - (fi_193 18)) hx hb hr (fun t ht hW => ⟨⟨(-1000100) - (fi_193 18), (va_up (va_up fi_193 12 (nI 0)) 19 (nI ((pbk T n).2.1)), cn_193, xl), rfl, (by unfold opBook; rw [hT11, hn12, zif_t c_248]; exact ⟨(congrArg (fun z => -1000100 - z) (hq18_R239 c_248)), ⟨((hfr_R239 0 (by decide)).trans hf0), ((hfr_R239 8 (by decide)).trans hf8), rfl, rfl, ((hfr_R239 29 (by decide)).trans hf29), ((hcr_R239 1 (by decide)).trans hc1), ((hcr_R239 2 (by decide)).trans hc2), ((hcr_R239 3 (by decide)).trans hc3), ((hcr_R239 4 (by decide)).trans hc4), ((hcr_R239 7 (by decide)).trans hc7), ((hcr_R239 11 (by decide)).trans hc11), ((hcr_R239 26 (by decide)).trans hc26), ((hcr_R239 27 (by decide)).trans hc27), ((hcr_R239 28 (by decide)).trans hc28)⟩, ⟨_, _, _, _, _, _, _, _, _, hq5_R239, ((hcr_R239 6 (by decide)).trans hc6), ((hcr_R239 9 (by decide)).trans hc9), ((hcr_R239 10 (by decide)).trans hc10), ((hcr_R239 24 (by decide)).trans hc24), ((hcr_R239 25 (by decide)).trans hc25), hc21, hc22, ((hfr_R239 23 (by decide)).trans hf23)⟩⟩), by rw [ht]; exact hP, hD⟩, hS.F ht⟩) hS.2.2 dX3_book_266
                    · refine lv_aload_n hx hb dX3_book_220 rfl (lv_at hl 0 rfl) ?_
                      refine va_get (D := g.1) (ci := 3) (v := .int (fi_193 20)) (C := RX3) (T := TX3) (N := 30) hx hb hts in_X3 hown hK hP 0 rfl rfl 20 (by decide) (hts _ q1317) (fun _ h9 => h9) rfl dX3_book_221 ?_
                      refine zti (hq20_R213) ?_
                      refine lv_aload_n hx hb dX3_book_224 rfl (lv_at hl 0 rfl) ?_
                      refine va_get (D := g.1) (ci := 3) (v := .ref (ad 5)) (C := RX3) (T := TX3) (N := 30) hx hb hts in_X3 hown hK hP 0 rfl rfl 5 (by decide) (hts _ q1302) (fun _ h9 => h9) rfl dX3_book_225 ?_
                      refine lv_iconst (v := nI 0) hx hb dX3_book_228 (by decide) ?_
                      refine zald hx hb hK hP 5 0 rfl rfl (j := 0) (by omega) (by decide) dX3_book_229 ?_
                      refine zti (congrFun hq5_R213 _) ?_
                      refine zti (show (nF ((pbk3 T n).2.2.2.2)) 0 = nI (((pbk3 T n).2.2.2.2) 0) from rfl) ?_
                      refine lv_ishr hx hb dX3_book_230 ?_
                      refine zti (show _ = nI ((pbk3 T n).2.2.2.1 / 2 ^ (pbk3 T n).2.2.2.2 0) from (zshr (by omega) (by omega))) ?_
                      have hdl : (pbk3 T n).2.2.2.1 / 2 ^ (pbk3 T n).2.2.2.2 0 ≤ (pbk3 T n).2.2.2.1 := Nat.div_le_self _ _
                      refine zi_eq (tgt := 239) hx hb (by omega) dX3_book_231 (by decide) (fun c_231 => ?_) (fun c_231 => ?_)
                      · have hPF_R239 : PF T n (pbk T n) fi_193 cn_193 := (by rw [show pbk T n = pbk3 T n from zif_t c_231]; exact ⟨hq13_R213, hq14_R213, hq15_R213, hq16_R213, hq17_R213, hq18_R213, hq20_R213, hq5_R213, hq12_R213, hq11_R213⟩)
                        have hO_R239 : PO T n (pbk T n) := (by rw [show pbk T n = pbk3 T n from zif_t c_231]; exact hO_R213)
                        have ho__R239 := hO_R239
                        obtain ⟨ho1_R239, _, _, ho4_R239, ho16_R239, hoF_R239⟩ := ho__R239
                        have he13_R239 := tkE_le (T := T) ho1_R239
                        have hk15_R239 := tkK_le T n (pbk T n).1
                        obtain ⟨hq13_R239, hq14_R239, hq15_R239, hq16_R239, hq17_R239, hq18_R239, hq20_R239, hq5_R239, hq12_R239, hq11_R239⟩ := hPF_R239
                        have hfr_R239 := hfr_R213
                        have hcr_R239 := hcr_R213
                        refine lv_aload_n hx hb dX3_book_239 rfl (lv_at hl 0 rfl) ?_
                        refine lv_iconst (v := nI 0) hx hb dX3_book_240 (by decide) ?_
                        refine va_put (D := g.1) (ci := 3) (v := .int (nI 0)) (ty := .int) (C := RX3) (T := TX3) (N := 30) hx hb hts in_X3 tyX3 tyX3_ok nmX3 hown hK hP hD hS 0 rfl rfl 12 (by decide) (hts _ q1309) (fun _ h9 => h9) rfl (by decide +kernel) rfl rfl (Nat.le_of_ble_eq_true rfl) dX3_book_241 (fun H locs hP hD hS => ?_)
                        have hP : va_P g.1 zCL (mW g ad (va_up fi_193 12 (nI 0)) cn_193 xl) _ := hP
                        have hD : va_D (mA ad s.heap.size) (mW g ad (va_up fi_193 12 (nI 0)) cn_193 xl) := hD
                        refine lv_aload_n hx hb dX3_book_244 rfl (lv_at hl 0 rfl) ?_
                        refine va_get (D := g.1) (ci := 3) (v := .int (fi_193 17)) (C := RX3) (T := TX3) (N := 30) hx hb hts in_X3 hown hK hP 0 rfl rfl 17 (by decide) (hts _ q1314) (fun _ h9 => h9) rfl dX3_book_245 ?_
                        refine zti (hq17_R239) ?_
                        refine zi_le (tgt := 267) hx hb (by omega) dX3_book_248 (by decide) (fun c_248 => ?_) (fun c_248 => ?_)
                        · refine lv_aload_n hx hb dX3_book_267 rfl (lv_at hl 0 rfl) ?_
                          refine lv_iconst (v := nI 0) hx hb dX3_book_268 (by decide) ?_
                          refine va_put (D := g.1) (ci := 3) (v := .int (nI 0)) (ty := .int) (C := RX3) (T := TX3) (N := 30) hx hb hts in_X3 tyX3 tyX3_ok nmX3 hown hK hP hD hS 0 rfl rfl 8 (by decide) (hts _ q1305) (fun _ h9 => h9) rfl (by decide +kernel) rfl rfl (Nat.le_of_ble_eq_true rfl) dX3_book_269 (fun H locs hP hD hS => ?_)
                          have hP : va_P g.1 zCL (mW g ad (va_up (va_up fi_193 8 (nI 0)) 12 (nI 0)) cn_193 xl) _ := hP
                          have hD : va_D (mA ad s.heap.size) (mW g ad (va_up (va_up fi_193 8 (nI 0)) 12 (nI 0)) cn_193 xl) := hD
                          refine lv_iconst (v := nI 0) hx hb dX3_book_272 (by decide) ?_
                          refine lv_istore_n (lv' := [(1, .int (nI 0)), (0, .ref (ad 0))]) hx hb dX3_book_273 rfl hl (by decide) rfl (fun ls hl => ?_)
                          refine zloopW (head := 274) (44) (fun k H locs cells slots ls => cells = 0 ∧ slots = 0 ∧ va_P g.1 zCL (mW g ad (va_up (va_up fi_193 8 (nI 0)) 12 (nI 0)) (va_up cn_193 4 (nF (va_cpy (pbk T n).2.2.2.2 (S.2.1 4) 0 0 k))) xl) H ∧ va_D (mA ad s.heap.size) (mW g ad (va_up (va_up fi_193 8 (nI 0)) 12 (nI 0)) (va_up cn_193 4 (nF (va_cpy (pbk T n).2.2.2.2 (S.2.1 4) 0 0 k))) xl) ∧ va_S (mA ad s.heap.size) s.heap H locs ∧ lv_has ls 2 [(0, .ref (ad 0)), (1, .int (nI k))]) (fun k hv_k ih_274 H locs cells slots ls hI => ?_) 0 (Nat.zero_le _) ?_
                          · obtain ⟨rfl, rfl, hP, hD, hS, hl⟩ := hI
                            refine lv_iload_n hx hb dX3_book_274 rfl (lv_at hl 1 rfl) ?_
                            refine lv_bipush (v := nI 44) hx hb dX3_book_275 (by decide) ?_
                            refine zc_ge (tgt := 298) hx hb (by omega) (by omega) dX3_book_277 (by decide) (fun c_277 => ?_) (fun c_277 => ?_)
                            · obtain rfl : 44 = k := by omega
                              obtain ⟨hP, hD⟩ := hP.exi hD 4 (f' := nF (pbk T n).2.2.2.2) rfl (fun j hj => by show nI (va_cpy _ _ 0 0 44 j) = nI ((pbk T n).2.2.2.2 j); rw [zcpy_in (by omega) (by omega)]; rw [Nat.zero_add, Nat.sub_zero])
                              have hP : va_P g.1 zCL (mW g ad (va_up (va_up fi_193 8 (nI 0)) 12 (nI 0)) (va_up cn_193 4 (nF (pbk T n).2.2.2.2)) xl) _ := hP
                              have hD : va_D (mA ad s.heap.size) (mW g ad (va_up (va_up fi_193 8 (nI 0)) 12 (nI 0)) (va_up cn_193 4 (nF (pbk T n).2.2.2.2)) xl) := hD
                              refine lv_aload_n hx hb dX3_book_298 rfl (lv_at hl 0 rfl) ?_
                              refine va_get (D := g.1) (ci := 3) (v := .ref (ad 4)) (C := RX3) (T := TX3) (N := 30) hx hb hts in_X3 hown hK hP 0 rfl rfl 4 (by decide) (hts _ q1301) (fun _ h9 => h9) rfl dX3_book_299 ?_
                              refine lv_iconst (v := nI 0) hx hb dX3_book_302 (by decide) ?_
                              refine zald hx hb hK hP 4 0 rfl rfl (j := 0) (by omega) (by decide) dX3_book_303 ?_
                              refine zti (show (nF ((pbk T n).2.2.2.2)) 0 = nI (((pbk T n).2.2.2.2) 0) from rfl) ?_
                              exact W.iret (v := nI (((pbk T n).2.2.2.2) 0)) hx hb hr (fun t ht hW => ⟨⟨nI (((pbk T n).2.2.2.2) 0), (va_up (va_up fi_193 8 (nI 0)) 12 (nI 0), va_up cn_193 4 (nF (pbk T n).2.2.2.2), xl), rfl, (by unfold opBook; rw [hT11, hn12, zif_f c_248]; exact ⟨rfl, ⟨((hfr_R239 0 (by decide)).trans hf0), rfl, rfl, ((hfr_R239 19 (by decide)).trans hf19), ((hfr_R239 29 (by decide)).trans hf29), ((hcr_R239 1 (by decide)).trans hc1), ((hcr_R239 2 (by decide)).trans hc2), ((hcr_R239 3 (by decide)).trans hc3), rfl, ((hcr_R239 7 (by decide)).trans hc7), ((hcr_R239 11 (by decide)).trans hc11), ((hcr_R239 26 (by decide)).trans hc26), ((hcr_R239 27 (by decide)).trans hc27), ((hcr_R239 28 (by decide)).trans hc28)⟩, ⟨_, _, _, _, _, _, _, _, _, hq5_R239, ((hcr_R239 6 (by decide)).trans hc6), ((hcr_R239 9 (by decide)).trans hc9), ((hcr_R239 10 (by decide)).trans hc10), ((hcr_R239 24 (by decide)).trans hc24), ((hcr_R239 25 (by decide)).trans hc25), hc21, hc22, ((hfr_R239 23 (by decide)).trans hf23)⟩⟩), by rw [ht]; exact hP, hD⟩, hS.F ht⟩) hS.2.2 dX3_book_304
                            · refine lv_aload_n hx hb dX3_book_280 rfl (lv_at hl 0 rfl) ?_
                              refine va_get (D := g.1) (ci := 3) (v := .ref (ad 4)) (C := RX3) (T := TX3) (N := 30) hx hb hts in_X3 hown hK hP 0 rfl rfl 4 (by decide) (hts _ q1301) (fun _ h9 => h9) rfl dX3_book_281 ?_
                              refine lv_iload_n hx hb dX3_book_284 rfl (lv_at hl 1 rfl) ?_
                              refine lv_aload_n hx hb dX3_book_285 rfl (lv_at hl 0 rfl) ?_
                              refine va_get (D := g.1) (ci := 3) (v := .ref (ad 5)) (C := RX3) (T := TX3) (N := 30) hx hb hts in_X3 hown hK hP 0 rfl rfl 5 (by decide) (hts _ q1302) (fun _ h9 => h9) rfl dX3_book_286 ?_
                              refine lv_iload_n hx hb dX3_book_289 rfl (lv_at hl 1 rfl) ?_
                              refine zald hx hb hK hP 5 0 rfl rfl (j := k) (by omega) (by decide) dX3_book_290 ?_
                              refine zti (congrFun hq5_R239 _) ?_
                              refine zti (show (nF ((pbk T n).2.2.2.2)) k = nI (((pbk T n).2.2.2.2) k) from rfl) ?_
                              refine zast (f := nF (va_cpy (pbk T n).2.2.2.2 (S.2.1 4) 0 0 k)) hx hb hK hP hD hS 4 0 rfl rfl (j := k) (by omega) (by decide) dX3_book_291 (fun H locs hP hD hS => ?_)
                              rw [nF_up] at hP hD
                              have hP : va_P g.1 zCL (mW g ad (va_up (va_up fi_193 8 (nI 0)) 12 (nI 0)) (va_up cn_193 4 (nF (va_up (va_cpy (pbk T n).2.2.2.2 (S.2.1 4) 0 0 k) k (((pbk T n).2.2.2.2) k)))) xl) _ := hP
                              have hD : va_D (mA ad s.heap.size) (mW g ad (va_up (va_up fi_193 8 (nI 0)) 12 (nI 0)) (va_up cn_193 4 (nF (va_up (va_cpy (pbk T n).2.2.2.2 (S.2.1 4) 0 0 k) k (((pbk T n).2.2.2.2) k)))) xl) := hD
                              refine lv_iinc (v := nI (k + 1)) (lv' := [(1, .int (nI (k + 1))), (0, .ref (ad 0))]) hx hb dX3_book_292 hl (k := 1) rfl (nI_add k 1) (by decide) rfl (fun ls hl => ?_)
                              refine lv_goto (tgt := 274) hx hb dX3_book_295 (by decide) ?_
                              rw [show va_up (va_cpy (pbk T n).2.2.2.2 (S.2.1 4) 0 0 k) k ((pbk T n).2.2.2.2 k) = va_cpy (pbk T n).2.2.2.2 (S.2.1 4) 0 0 (k + 1) by have h9 := zcpy_s (pbk T n).2.2.2.2 (S.2.1 4) 0 0 k; rw [Nat.zero_add] at h9; exact h9] at hP hD
                              exact ih_274 (by omega) _ _ _ _ _ ⟨rfl, rfl, hP, hD, hS, lv_sub hl [1, 0] rfl⟩
                          · rw [mW_up (cn := cn_193) (k := 4) (f := nF (va_cpy (pbk T n).2.2.2.2 (S.2.1 4) 0 0 0)) (by rw [zcpy_0]; exact (hcr_R239 4 (by decide)).trans hc4)] at hP
                            rw [mW_up (cn := cn_193) (k := 4) (f := nF (va_cpy (pbk T n).2.2.2.2 (S.2.1 4) 0 0 0)) (by rw [zcpy_0]; exact (hcr_R239 4 (by decide)).trans hc4)] at hD
                            have hP : va_P g.1 zCL (mW g ad (va_up (va_up fi_193 8 (nI 0)) 12 (nI 0)) (va_up cn_193 4 (nF (va_cpy (pbk T n).2.2.2.2 (S.2.1 4) 0 0 0))) xl) _ := hP
                            have hD : va_D (mA ad s.heap.size) (mW g ad (va_up (va_up fi_193 8 (nI 0)) 12 (nI 0)) (va_up cn_193 4 (nF (va_cpy (pbk T n).2.2.2.2 (S.2.1 4) 0 0 0))) xl) := hD
                            exact ⟨rfl, rfl, hP, hD, hS, lv_sub hl [1, 0] rfl⟩
                        · refine lv_aload_n hx hb dX3_book_251 rfl (lv_at hl 0 rfl) ?_
                          refine lv_aload_n hx hb dX3_book_252 rfl (lv_at hl 0 rfl) ?_
                          refine va_get (D := g.1) (ci := 3) (v := .int (fi_193 17)) (C := RX3) (T := TX3) (N := 30) hx hb hts in_X3 hown hK hP 0 rfl rfl 17 (by decide) (hts _ q1314) (fun _ h9 => h9) rfl dX3_book_253 ?_
                          refine zti (hq17_R239) ?_
                          refine va_put (D := g.1) (ci := 3) (v := .int (nI ((pbk T n).2.1))) (ty := .int) (C := RX3) (T := TX3) (N := 30) hx hb hts in_X3 tyX3 tyX3_ok nmX3 hown hK hP hD hS 0 rfl rfl 19 (by decide) (hts _ q1316) (fun _ h9 => h9) rfl (by decide +kernel) rfl rfl (Nat.le_of_ble_eq_true rfl) dX3_book_256 (fun H locs hP hD hS => ?_)
                          have hP : va_P g.1 zCL (mW g ad (va_up (va_up fi_193 12 (nI 0)) 19 (nI ((pbk T n).2.1))) cn_193 xl) _ := hP
                          have hD : va_D (mA ad s.heap.size) (mW g ad (va_up (va_up fi_193 12 (nI 0)) 19 (nI ((pbk T n).2.1))) cn_193 xl) := hD
                          refine lv_ldc hx hb hown (hts _ q1466) dX3_book_259 ?_
                          refine lv_aload_n hx hb dX3_book_261 rfl (lv_at hl 0 rfl) ?_
                          refine va_get (D := g.1) (ci := 3) (v := .int (fi_193 18)) (C := RX3) (T := TX3) (N := 30) hx hb hts in_X3 hown hK hP 0 rfl rfl 18 (by decide) (hts _ q1315) (fun _ h9 => h9) rfl dX3_book_262 ?_
                          refine lv_isub hx hb dX3_book_265 ?_
                          exact W.iret (v := (-1000100) - (fi_193 18)) hx hb hr (fun t ht hW => ⟨⟨(-1000100) - (fi_193 18), (va_up (va_up fi_193 12 (nI 0)) 19 (nI ((pbk T n).2.1)), cn_193, xl), rfl, (by unfold opBook; rw [hT11, hn12, zif_t c_248]; exact ⟨(congrArg (fun z => -1000100 - z) (hq18_R239 c_248)), ⟨((hfr_R239 0 (by decide)).trans hf0), ((hfr_R239 8 (by decide)).trans hf8), rfl, rfl, ((hfr_R239 29 (by decide)).trans hf29), ((hcr_R239 1 (by decide)).trans hc1), ((hcr_R239 2 (by decide)).trans hc2), ((hcr_R239 3 (by decide)).trans hc3), ((hcr_R239 4 (by decide)).trans hc4), ((hcr_R239 7 (by decide)).trans hc7), ((hcr_R239 11 (by decide)).trans hc11), ((hcr_R239 26 (by decide)).trans hc26), ((hcr_R239 27 (by decide)).trans hc27), ((hcr_R239 28 (by decide)).trans hc28)⟩, ⟨_, _, _, _, _, _, _, _, _, hq5_R239, ((hcr_R239 6 (by decide)).trans hc6), ((hcr_R239 9 (by decide)).trans hc9), ((hcr_R239 10 (by decide)).trans hc10), ((hcr_R239 24 (by decide)).trans hc24), ((hcr_R239 25 (by decide)).trans hc25), hc21, hc22, ((hfr_R239 23 (by decide)).trans hf23)⟩⟩), by rw [ht]; exact hP, hD⟩, hS.F ht⟩) hS.2.2 dX3_book_266
                      · refine lv_aload_n hx hb dX3_book_234 rfl (lv_at hl 0 rfl) ?_
                        refine lv_iconst (v := nI 4) hx hb dX3_book_235 (by decide) ?_
                        have hle_236 := hS.1
                        refine va_callv (va_runV (As := [.int (nI 4)]) (rest := []) ⟨hx, hb, hml, hown, hts⟩ (m_X3_bad l g ad fi_193 cn_193 xl _ T n (pbk3 T n) (show PF T n (pbk3 T n) fi_193 cn_193 from ⟨hq13_R213, hq14_R213, hq15_R213, hq16_R213, hq17_R213, hq18_R213, hq20_R213, hq5_R213, hq12_R213, hq11_R213⟩) hO_R213 4 (by decide)) (cwV 1 hts (lw_V q1442 q1444 qs34 q69 q1445) rfl rfl rfl hdV_X3_bad ⟨Nat.le_of_ble_eq_true rfl, Nat.le_of_ble_eq_true rfl⟩) (zpreV hK hN (va_recv hK hP (ci := 3) (q0 := 0) rfl rfl) ⟨rfl, hP, hD.weaken (fun _ _ _ _ => trivial)⟩) rfl rfl hl.1 rfl (lv_room (Nat.le_of_ble_eq_true rfl)) dX3_book_236 ⟨Nat.le_of_ble_eq_true rfl, Nat.le_of_ble_eq_true rfl⟩) hS (fun q _ h => mA_le hS.1 q h) (mA_le hS.1) (fun u t H locs ht hvm hw_236 hB hzz hkk hS => ?_)
                        obtain ⟨hP, hD⟩ := hB
                        rw [ht] at hP
                        have hD := hD.weaken (fun _ _ _ h => mA_le hle_236 _ h)
                        obtain ⟨fi_239, cn_239, xl_239⟩ := u
                        obtain ⟨_, hPF_239, hO_239, hxl_239, hfr_239, hcr_239⟩ := hw_236
                        have hxl_239 : xl = xl_239 := hxl_239.symm
                        subst hxl_239
                        have hPF_239 : PF T n (pbad 4 (pbk3 T n)) fi_239 cn_239 := hPF_239
                        have hO_239 : PO T n (pbad 4 (pbk3 T n)) := hO_239
                        have ho__239 := hO_239
                        obtain ⟨ho1_239, _, _, ho4_239, ho16_239, hoF_239⟩ := ho__239
                        have he13_239 := tkE_le (T := T) ho1_239
                        have hk15_239 := tkK_le T n (pbad 4 (pbk3 T n)).1
                        obtain ⟨hq13_239, hq14_239, hq15_239, hq16_239, hq17_239, hq18_239, hq20_239, hq5_239, hq12_239, hq11_239⟩ := hPF_239
                        have hfr_239 : ∀ k, (k < 13 ∨ 20 < k ∨ k = 19) → fi_239 k = fi k := fun k hk => (hfr_239 k hk).trans (hfr_R213 k hk)
                        have hcr_239 : ∀ k, k ≠ 5 → cn_239 k = cn k := fun k hk => (hcr_239 k hk).trans (hcr_R213 k hk)
                        have hP : va_P g.1 zCL (mW g ad fi_239 cn_239 xl) _ := hP
                        have hD : va_D (mA ad s.heap.size) (mW g ad fi_239 cn_239 xl) := hD
                        have hPF_R239 : PF T n (pbk T n) fi_239 cn_239 := (by rw [show pbk T n = pbad 4 (pbk3 T n) from zif_f c_231]; exact ⟨hq13_239, hq14_239, hq15_239, hq16_239, hq17_239, hq18_239, hq20_239, hq5_239, hq12_239, hq11_239⟩)
                        have hO_R239 : PO T n (pbk T n) := (by rw [show pbk T n = pbad 4 (pbk3 T n) from zif_f c_231]; exact hO_239)
                        have ho__R239 := hO_R239
                        obtain ⟨ho1_R239, _, _, ho4_R239, ho16_R239, hoF_R239⟩ := ho__R239
                        have he13_R239 := tkE_le (T := T) ho1_R239
                        have hk15_R239 := tkK_le T n (pbk T n).1
                        obtain ⟨hq13_R239, hq14_R239, hq15_R239, hq16_R239, hq17_R239, hq18_R239, hq20_R239, hq5_R239, hq12_R239, hq11_R239⟩ := hPF_R239
                        have hfr_R239 := hfr_239
                        have hcr_R239 := hcr_239
                        refine lv_aload_n hx hb dX3_book_239 rfl (lv_at hl 0 rfl) ?_
                        refine lv_iconst (v := nI 0) hx hb dX3_book_240 (by decide) ?_
                        refine va_put (D := g.1) (ci := 3) (v := .int (nI 0)) (ty := .int) (C := RX3) (T := TX3) (N := 30) hx hb hts in_X3 tyX3 tyX3_ok nmX3 hown hK hP hD hS 0 rfl rfl 12 (by decide) (hts _ q1309) (fun _ h9 => h9) rfl (by decide +kernel) rfl rfl (Nat.le_of_ble_eq_true rfl) dX3_book_241 (fun H locs hP hD hS => ?_)
                        have hP : va_P g.1 zCL (mW g ad (va_up fi_239 12 (nI 0)) cn_239 xl) _ := hP
                        have hD : va_D (mA ad s.heap.size) (mW g ad (va_up fi_239 12 (nI 0)) cn_239 xl) := hD
                        refine lv_aload_n hx hb dX3_book_244 rfl (lv_at hl 0 rfl) ?_
                        refine va_get (D := g.1) (ci := 3) (v := .int (fi_239 17)) (C := RX3) (T := TX3) (N := 30) hx hb hts in_X3 hown hK hP 0 rfl rfl 17 (by decide) (hts _ q1314) (fun _ h9 => h9) rfl dX3_book_245 ?_
                        refine zti (hq17_R239) ?_
                        refine zi_le (tgt := 267) hx hb (by omega) dX3_book_248 (by decide) (fun c_248 => ?_) (fun c_248 => ?_)
                        · refine lv_aload_n hx hb dX3_book_267 rfl (lv_at hl 0 rfl) ?_
                          refine lv_iconst (v := nI 0) hx hb dX3_book_268 (by decide) ?_
                          refine va_put (D := g.1) (ci := 3) (v := .int (nI 0)) (ty := .int) (C := RX3) (T := TX3) (N := 30) hx hb hts in_X3 tyX3 tyX3_ok nmX3 hown hK hP hD hS 0 rfl rfl 8 (by decide) (hts _ q1305) (fun _ h9 => h9) rfl (by decide +kernel) rfl rfl (Nat.le_of_ble_eq_true rfl) dX3_book_269 (fun H locs hP hD hS => ?_)
                          have hP : va_P g.1 zCL (mW g ad (va_up (va_up fi_239 8 (nI 0)) 12 (nI 0)) cn_239 xl) _ := hP
                          have hD : va_D (mA ad s.heap.size) (mW g ad (va_up (va_up fi_239 8 (nI 0)) 12 (nI 0)) cn_239 xl) := hD
                          refine lv_iconst (v := nI 0) hx hb dX3_book_272 (by decide) ?_
                          refine lv_istore_n (lv' := [(1, .int (nI 0)), (0, .ref (ad 0))]) hx hb dX3_book_273 rfl hl (by decide) rfl (fun ls hl => ?_)
                          refine zloopW (head := 274) (44) (fun k H locs cells slots ls => cells = 0 ∧ slots = 0 ∧ va_P g.1 zCL (mW g ad (va_up (va_up fi_239 8 (nI 0)) 12 (nI 0)) (va_up cn_239 4 (nF (va_cpy (pbk T n).2.2.2.2 (S.2.1 4) 0 0 k))) xl) H ∧ va_D (mA ad s.heap.size) (mW g ad (va_up (va_up fi_239 8 (nI 0)) 12 (nI 0)) (va_up cn_239 4 (nF (va_cpy (pbk T n).2.2.2.2 (S.2.1 4) 0 0 k))) xl) ∧ va_S (mA ad s.heap.size) s.heap H locs ∧ lv_has ls 2 [(0, .ref (ad 0)), (1, .int (nI k))]) (fun k hv_k ih_274 H locs cells slots ls hI => ?_) 0 (Nat.zero_le _) ?_
                          · obtain ⟨rfl, rfl, hP, hD, hS, hl⟩ := hI
                            refine lv_iload_n hx hb dX3_book_274 rfl (lv_at hl 1 rfl) ?_
                            refine lv_bipush (v := nI 44) hx hb dX3_book_275 (by decide) ?_
                            refine zc_ge (tgt := 298) hx hb (by omega) (by omega) dX3_book_277 (by decide) (fun c_277 => ?_) (fun c_277 => ?_)
                            · obtain rfl : 44 = k := by omega
                              obtain ⟨hP, hD⟩ := hP.exi hD 4 (f' := nF (pbk T n).2.2.2.2) rfl (fun j hj => by show nI (va_cpy _ _ 0 0 44 j) = nI ((pbk T n).2.2.2.2 j); rw [zcpy_in (by omega) (by omega)]; rw [Nat.zero_add, Nat.sub_zero])
                              have hP : va_P g.1 zCL (mW g ad (va_up (va_up fi_239 8 (nI 0)) 12 (nI 0)) (va_up cn_239 4 (nF (pbk T n).2.2.2.2)) xl) _ := hP
                              have hD : va_D (mA ad s.heap.size) (mW g ad (va_up (va_up fi_239 8 (nI 0)) 12 (nI 0)) (va_up cn_239 4 (nF (pbk T n).2.2.2.2)) xl) := hD
                              refine lv_aload_n hx hb dX3_book_298 rfl (lv_at hl 0 rfl) ?_
                              refine va_get (D := g.1) (ci := 3) (v := .ref (ad 4)) (C := RX3) (T := TX3) (N := 30) hx hb hts in_X3 hown hK hP 0 rfl rfl 4 (by decide) (hts _ q1301) (fun _ h9 => h9) rfl dX3_book_299 ?_
                              refine lv_iconst (v := nI 0) hx hb dX3_book_302 (by decide) ?_
                              refine zald hx hb hK hP 4 0 rfl rfl (j := 0) (by omega) (by decide) dX3_book_303 ?_
                              refine zti (show (nF ((pbk T n).2.2.2.2)) 0 = nI (((pbk T n).2.2.2.2) 0) from rfl) ?_
                              exact W.iret (v := nI (((pbk T n).2.2.2.2) 0)) hx hb hr (fun t ht hW => ⟨⟨nI (((pbk T n).2.2.2.2) 0), (va_up (va_up fi_239 8 (nI 0)) 12 (nI 0), va_up cn_239 4 (nF (pbk T n).2.2.2.2), xl), rfl, (by unfold opBook; rw [hT11, hn12, zif_f c_248]; exact ⟨rfl, ⟨((hfr_R239 0 (by decide)).trans hf0), rfl, rfl, ((hfr_R239 19 (by decide)).trans hf19), ((hfr_R239 29 (by decide)).trans hf29), ((hcr_R239 1 (by decide)).trans hc1), ((hcr_R239 2 (by decide)).trans hc2), ((hcr_R239 3 (by decide)).trans hc3), rfl, ((hcr_R239 7 (by decide)).trans hc7), ((hcr_R239 11 (by decide)).trans hc11), ((hcr_R239 26 (by decide)).trans hc26), ((hcr_R239 27 (by decide)).trans hc27), ((hcr_R239 28 (by decide)).trans hc28)⟩, ⟨_, _, _, _, _, _, _, _, _, hq5_R239, ((hcr_R239 6 (by decide)).trans hc6), ((hcr_R239 9 (by decide)).trans hc9), ((hcr_R239 10 (by decide)).trans hc10), ((hcr_R239 24 (by decide)).trans hc24), ((hcr_R239 25 (by decide)).trans hc25), hc21, hc22, ((hfr_R239 23 (by decide)).trans hf23)⟩⟩), by rw [ht]; exact hP, hD⟩, hS.F ht⟩) hS.2.2 dX3_book_304
                            · refine lv_aload_n hx hb dX3_book_280 rfl (lv_at hl 0 rfl) ?_
                              refine va_get (D := g.1) (ci := 3) (v := .ref (ad 4)) (C := RX3) (T := TX3) (N := 30) hx hb hts in_X3 hown hK hP 0 rfl rfl 4 (by decide) (hts _ q1301) (fun _ h9 => h9) rfl dX3_book_281 ?_
                              refine lv_iload_n hx hb dX3_book_284 rfl (lv_at hl 1 rfl) ?_
                              refine lv_aload_n hx hb dX3_book_285 rfl (lv_at hl 0 rfl) ?_
                              refine va_get (D := g.1) (ci := 3) (v := .ref (ad 5)) (C := RX3) (T := TX3) (N := 30) hx hb hts in_X3 hown hK hP 0 rfl rfl 5 (by decide) (hts _ q1302) (fun _ h9 => h9) rfl dX3_book_286 ?_
                              refine lv_iload_n hx hb dX3_book_289 rfl (lv_at hl 1 rfl) ?_
                              refine zald hx hb hK hP 5 0 rfl rfl (j := k) (by omega) (by decide) dX3_book_290 ?_
                              refine zti (congrFun hq5_R239 _) ?_
                              refine zti (show (nF ((pbk T n).2.2.2.2)) k = nI (((pbk T n).2.2.2.2) k) from rfl) ?_
                              refine zast (f := nF (va_cpy (pbk T n).2.2.2.2 (S.2.1 4) 0 0 k)) hx hb hK hP hD hS 4 0 rfl rfl (j := k) (by omega) (by decide) dX3_book_291 (fun H locs hP hD hS => ?_)
                              rw [nF_up] at hP hD
                              have hP : va_P g.1 zCL (mW g ad (va_up (va_up fi_239 8 (nI 0)) 12 (nI 0)) (va_up cn_239 4 (nF (va_up (va_cpy (pbk T n).2.2.2.2 (S.2.1 4) 0 0 k) k (((pbk T n).2.2.2.2) k)))) xl) _ := hP
                              have hD : va_D (mA ad s.heap.size) (mW g ad (va_up (va_up fi_239 8 (nI 0)) 12 (nI 0)) (va_up cn_239 4 (nF (va_up (va_cpy (pbk T n).2.2.2.2 (S.2.1 4) 0 0 k) k (((pbk T n).2.2.2.2) k)))) xl) := hD
                              refine lv_iinc (v := nI (k + 1)) (lv' := [(1, .int (nI (k + 1))), (0, .ref (ad 0))]) hx hb dX3_book_292 hl (k := 1) rfl (nI_add k 1) (by decide) rfl (fun ls hl => ?_)
                              refine lv_goto (tgt := 274) hx hb dX3_book_295 (by decide) ?_
                              rw [show va_up (va_cpy (pbk T n).2.2.2.2 (S.2.1 4) 0 0 k) k ((pbk T n).2.2.2.2 k) = va_cpy (pbk T n).2.2.2.2 (S.2.1 4) 0 0 (k + 1) by have h9 := zcpy_s (pbk T n).2.2.2.2 (S.2.1 4) 0 0 k; rw [Nat.zero_add] at h9; exact h9] at hP hD
                              exact ih_274 (by omega) _ _ _ _ _ ⟨rfl, rfl, hP, hD, hS, lv_sub hl [1, 0] rfl⟩
                          · rw [mW_up (cn := cn_239) (k := 4) (f := nF (va_cpy (pbk T n).2.2.2.2 (S.2.1 4) 0 0 0)) (by rw [zcpy_0]; exact (hcr_R239 4 (by decide)).trans hc4)] at hP
                            rw [mW_up (cn := cn_239) (k := 4) (f := nF (va_cpy (pbk T n).2.2.2.2 (S.2.1 4) 0 0 0)) (by rw [zcpy_0]; exact (hcr_R239 4 (by decide)).trans hc4)] at hD
                            have hP : va_P g.1 zCL (mW g ad (va_up (va_up fi_239 8 (nI 0)) 12 (nI 0)) (va_up cn_239 4 (nF (va_cpy (pbk T n).2.2.2.2 (S.2.1 4) 0 0 0))) xl) _ := hP
                            have hD : va_D (mA ad s.heap.size) (mW g ad (va_up (va_up fi_239 8 (nI 0)) 12 (nI 0)) (va_up cn_239 4 (nF (va_cpy (pbk T n).2.2.2.2 (S.2.1 4) 0 0 0))) xl) := hD
                            exact ⟨rfl, rfl, hP, hD, hS, lv_sub hl [1, 0] rfl⟩
                        · refine lv_aload_n hx hb dX3_book_251 rfl (lv_at hl 0 rfl) ?_
                          refine lv_aload_n hx hb dX3_book_252 rfl (lv_at hl 0 rfl) ?_
                          refine va_get (D := g.1) (ci := 3) (v := .int (fi_239 17)) (C := RX3) (T := TX3) (N := 30) hx hb hts in_X3 hown hK hP 0 rfl rfl 17 (by decide) (hts _ q1314) (fun _ h9 => h9) rfl dX3_book_253 ?_
                          refine zti (hq17_R239) ?_
                          refine va_put (D := g.1) (ci := 3) (v := .int (nI ((pbk T n).2.1))) (ty := .int) (C := RX3) (T := TX3) (N := 30) hx hb hts in_X3 tyX3 tyX3_ok nmX3 hown hK hP hD hS 0 rfl rfl 19 (by decide) (hts _ q1316) (fun _ h9 => h9) rfl (by decide +kernel) rfl rfl (Nat.le_of_ble_eq_true rfl) dX3_book_256 (fun H locs hP hD hS => ?_)
                          have hP : va_P g.1 zCL (mW g ad (va_up (va_up fi_239 12 (nI 0)) 19 (nI ((pbk T n).2.1))) cn_239 xl) _ := hP
                          have hD : va_D (mA ad s.heap.size) (mW g ad (va_up (va_up fi_239 12 (nI 0)) 19 (nI ((pbk T n).2.1))) cn_239 xl) := hD
                          refine lv_ldc hx hb hown (hts _ q1466) dX3_book_259 ?_
                          refine lv_aload_n hx hb dX3_book_261 rfl (lv_at hl 0 rfl) ?_
                          refine va_get (D := g.1) (ci := 3) (v := .int (fi_239 18)) (C := RX3) (T := TX3) (N := 30) hx hb hts in_X3 hown hK hP 0 rfl rfl 18 (by decide) (hts _ q1315) (fun _ h9 => h9) rfl dX3_book_262 ?_
                          refine lv_isub hx hb dX3_book_265 ?_
                          exact W.iret (v := (-1000100) - (fi_239 18)) hx hb hr (fun t ht hW => ⟨⟨(-1000100) - (fi_239 18), (va_up (va_up fi_239 12 (nI 0)) 19 (nI ((pbk T n).2.1)), cn_239, xl), rfl, (by unfold opBook; rw [hT11, hn12, zif_t c_248]; exact ⟨(congrArg (fun z => -1000100 - z) (hq18_R239 c_248)), ⟨((hfr_R239 0 (by decide)).trans hf0), ((hfr_R239 8 (by decide)).trans hf8), rfl, rfl, ((hfr_R239 29 (by decide)).trans hf29), ((hcr_R239 1 (by decide)).trans hc1), ((hcr_R239 2 (by decide)).trans hc2), ((hcr_R239 3 (by decide)).trans hc3), ((hcr_R239 4 (by decide)).trans hc4), ((hcr_R239 7 (by decide)).trans hc7), ((hcr_R239 11 (by decide)).trans hc11), ((hcr_R239 26 (by decide)).trans hc26), ((hcr_R239 27 (by decide)).trans hc27), ((hcr_R239 28 (by decide)).trans hc28)⟩, ⟨_, _, _, _, _, _, _, _, _, hq5_R239, ((hcr_R239 6 (by decide)).trans hc6), ((hcr_R239 9 (by decide)).trans hc9), ((hcr_R239 10 (by decide)).trans hc10), ((hcr_R239 24 (by decide)).trans hc24), ((hcr_R239 25 (by decide)).trans hc25), hc21, hc22, ((hfr_R239 23 (by decide)).trans hf23)⟩⟩), by rw [ht]; exact hP, hD⟩, hS.F ht⟩) hS.2.2 dX3_book_266
                  · refine lv_aload_n hx hb dX3_book_208 rfl (lv_at hl 0 rfl) ?_
                    refine lv_iconst (v := nI 1) hx hb dX3_book_209 (by decide) ?_
                    have hle_210 := hS.1
                    refine va_callv (va_runV (As := [.int (nI 1)]) (rest := []) ⟨hx, hb, hml, hown, hts⟩ (m_X3_bad l g ad fi_193 cn_193 xl _ T n (pbk2 T n) (show PF T n (pbk2 T n) fi_193 cn_193 from ⟨hq13_R193, hq14_R193, hq15_R193, hq16_R193, hq17_R193, hq18_R193, hq20_R193, hq5_R193, hq12_R193, hq11_R193⟩) hO_R193 1 (by decide)) (cwV 1 hts (lw_V q1442 q1444 qs34 q69 q1445) rfl rfl rfl hdV_X3_bad ⟨Nat.le_of_ble_eq_true rfl, Nat.le_of_ble_eq_true rfl⟩) (zpreV hK hN (va_recv hK hP (ci := 3) (q0 := 0) rfl rfl) ⟨rfl, hP, hD.weaken (fun _ _ _ _ => trivial)⟩) rfl rfl hl.1 rfl (lv_room (Nat.le_of_ble_eq_true rfl)) dX3_book_210 ⟨Nat.le_of_ble_eq_true rfl, Nat.le_of_ble_eq_true rfl⟩) hS (fun q _ h => mA_le hS.1 q h) (mA_le hS.1) (fun u t H locs ht hvm hw_210 hB hzz hkk hS => ?_)
                    obtain ⟨hP, hD⟩ := hB
                    rw [ht] at hP
                    have hD := hD.weaken (fun _ _ _ h => mA_le hle_210 _ h)
                    obtain ⟨fi_213, cn_213, xl_213⟩ := u
                    obtain ⟨_, hPF_213, hO_213, hxl_213, hfr_213, hcr_213⟩ := hw_210
                    have hxl_213 : xl = xl_213 := hxl_213.symm
                    subst hxl_213
                    have hPF_213 : PF T n (pbad 1 (pbk2 T n)) fi_213 cn_213 := hPF_213
                    have hO_213 : PO T n (pbad 1 (pbk2 T n)) := hO_213
                    have ho__213 := hO_213
                    obtain ⟨ho1_213, _, _, ho4_213, ho16_213, hoF_213⟩ := ho__213
                    have he13_213 := tkE_le (T := T) ho1_213
                    have hk15_213 := tkK_le T n (pbad 1 (pbk2 T n)).1
                    obtain ⟨hq13_213, hq14_213, hq15_213, hq16_213, hq17_213, hq18_213, hq20_213, hq5_213, hq12_213, hq11_213⟩ := hPF_213
                    have hfr_213 : ∀ k, (k < 13 ∨ 20 < k ∨ k = 19) → fi_213 k = fi k := fun k hk => (hfr_213 k hk).trans (hfr_R193 k hk)
                    have hcr_213 : ∀ k, k ≠ 5 → cn_213 k = cn k := fun k hk => (hcr_213 k hk).trans (hcr_R193 k hk)
                    have hP : va_P g.1 zCL (mW g ad fi_213 cn_213 xl) _ := hP
                    have hD : va_D (mA ad s.heap.size) (mW g ad fi_213 cn_213 xl) := hD
                    have hPF_R213 : PF T n (pbk3 T n) fi_213 cn_213 := (by rw [show pbk3 T n = pbad 1 (pbk2 T n) from zif_f c_205]; exact ⟨hq13_213, hq14_213, hq15_213, hq16_213, hq17_213, hq18_213, hq20_213, hq5_213, hq12_213, hq11_213⟩)
                    have hO_R213 : PO T n (pbk3 T n) := (by rw [show pbk3 T n = pbad 1 (pbk2 T n) from zif_f c_205]; exact hO_213)
                    have ho__R213 := hO_R213
                    obtain ⟨ho1_R213, _, _, ho4_R213, ho16_R213, hoF_R213⟩ := ho__R213
                    have he13_R213 := tkE_le (T := T) ho1_R213
                    have hk15_R213 := tkK_le T n (pbk3 T n).1
                    obtain ⟨hq13_R213, hq14_R213, hq15_R213, hq16_R213, hq17_R213, hq18_R213, hq20_R213, hq5_R213, hq12_R213, hq11_R213⟩ := hPF_R213
                    have hfr_R213 := hfr_213
                    have hcr_R213 := hcr_213
                    refine lv_aload_n hx hb dX3_book_213 rfl (lv_at hl 0 rfl) ?_
                    refine va_get (D := g.1) (ci := 3) (v := .int (fi_213 17)) (C := RX3) (T := TX3) (N := 30) hx hb hts in_X3 hown hK hP 0 rfl rfl 17 (by decide) (hts _ q1314) (fun _ h9 => h9) rfl dX3_book_214 ?_
                    refine zti (hq17_R213) ?_
                    refine zi_ne (tgt := 239) hx hb (by omega) dX3_book_217 (by decide) (fun c_217 => ?_) (fun c_217 => ?_)
                    · have hPF_R239 : PF T n (pbk T n) fi_213 cn_213 := (by rw [show pbk T n = pbk3 T n from zif_same (pbad_id c_217)]; exact ⟨hq13_R213, hq14_R213, hq15_R213, hq16_R213, hq17_R213, hq18_R213, hq20_R213, hq5_R213, hq12_R213, hq11_R213⟩)
                      have hO_R239 : PO T n (pbk T n) := (by rw [show pbk T n = pbk3 T n from zif_same (pbad_id c_217)]; exact hO_R213)
                      have ho__R239 := hO_R239
                      obtain ⟨ho1_R239, _, _, ho4_R239, ho16_R239, hoF_R239⟩ := ho__R239
                      have he13_R239 := tkE_le (T := T) ho1_R239
                      have hk15_R239 := tkK_le T n (pbk T n).1
                      obtain ⟨hq13_R239, hq14_R239, hq15_R239, hq16_R239, hq17_R239, hq18_R239, hq20_R239, hq5_R239, hq12_R239, hq11_R239⟩ := hPF_R239
                      have hfr_R239 := hfr_R213
                      have hcr_R239 := hcr_R213
                      refine lv_aload_n hx hb dX3_book_239 rfl (lv_at hl 0 rfl) ?_
                      refine lv_iconst (v := nI 0) hx hb dX3_book_240 (by decide) ?_
                      refine va_put (D := g.1) (ci := 3) (v := .int (nI 0)) (ty := .int) (C := RX3) (T := TX3) (N := 30) hx hb hts in_X3 tyX3 tyX3_ok nmX3 hown hK hP hD hS 0 rfl rfl 12 (by decide) (hts _ q1309) (fun _ h9 => h9) rfl (by decide +kernel) rfl rfl (Nat.le_of_ble_eq_true rfl) dX3_book_241 (fun H locs hP hD hS => ?_)
                      have hP : va_P g.1 zCL (mW g ad (va_up fi_213 12 (nI 0)) cn_213 xl) _ := hP
                      have hD : va_D (mA ad s.heap.size) (mW g ad (va_up fi_213 12 (nI 0)) cn_213 xl) := hD
                      refine lv_aload_n hx hb dX3_book_244 rfl (lv_at hl 0 rfl) ?_
                      refine va_get (D := g.1) (ci := 3) (v := .int (fi_213 17)) (C := RX3) (T := TX3) (N := 30) hx hb hts in_X3 hown hK hP 0 rfl rfl 17 (by decide) (hts _ q1314) (fun _ h9 => h9) rfl dX3_book_245 ?_
                      refine zti (hq17_R239) ?_
                      refine zi_le (tgt := 267) hx hb (by omega) dX3_book_248 (by decide) (fun c_248 => ?_) (fun c_248 => ?_)
                      · refine lv_aload_n hx hb dX3_book_267 rfl (lv_at hl 0 rfl) ?_
                        refine lv_iconst (v := nI 0) hx hb dX3_book_268 (by decide) ?_
                        refine va_put (D := g.1) (ci := 3) (v := .int (nI 0)) (ty := .int) (C := RX3) (T := TX3) (N := 30) hx hb hts in_X3 tyX3 tyX3_ok nmX3 hown hK hP hD hS 0 rfl rfl 8 (by decide) (hts _ q1305) (fun _ h9 => h9) rfl (by decide +kernel) rfl rfl (Nat.le_of_ble_eq_true rfl) dX3_book_269 (fun H locs hP hD hS => ?_)
                        have hP : va_P g.1 zCL (mW g ad (va_up (va_up fi_213 8 (nI 0)) 12 (nI 0)) cn_213 xl) _ := hP
                        have hD : va_D (mA ad s.heap.size) (mW g ad (va_up (va_up fi_213 8 (nI 0)) 12 (nI 0)) cn_213 xl) := hD
                        refine lv_iconst (v := nI 0) hx hb dX3_book_272 (by decide) ?_
                        refine lv_istore_n (lv' := [(1, .int (nI 0)), (0, .ref (ad 0))]) hx hb dX3_book_273 rfl hl (by decide) rfl (fun ls hl => ?_)
                        refine zloopW (head := 274) (44) (fun k H locs cells slots ls => cells = 0 ∧ slots = 0 ∧ va_P g.1 zCL (mW g ad (va_up (va_up fi_213 8 (nI 0)) 12 (nI 0)) (va_up cn_213 4 (nF (va_cpy (pbk T n).2.2.2.2 (S.2.1 4) 0 0 k))) xl) H ∧ va_D (mA ad s.heap.size) (mW g ad (va_up (va_up fi_213 8 (nI 0)) 12 (nI 0)) (va_up cn_213 4 (nF (va_cpy (pbk T n).2.2.2.2 (S.2.1 4) 0 0 k))) xl) ∧ va_S (mA ad s.heap.size) s.heap H locs ∧ lv_has ls 2 [(0, .ref (ad 0)), (1, .int (nI k))]) (fun k hv_k ih_274 H locs cells slots ls hI => ?_) 0 (Nat.zero_le _) ?_
                        · obtain ⟨rfl, rfl, hP, hD, hS, hl⟩ := hI
                          refine lv_iload_n hx hb dX3_book_274 rfl (lv_at hl 1 rfl) ?_
                          refine lv_bipush (v := nI 44) hx hb dX3_book_275 (by decide) ?_
                          refine zc_ge (tgt := 298) hx hb (by omega) (by omega) dX3_book_277 (by decide) (fun c_277 => ?_) (fun c_277 => ?_)
                          · obtain rfl : 44 = k := by omega
                            obtain ⟨hP, hD⟩ := hP.exi hD 4 (f' := nF (pbk T n).2.2.2.2) rfl (fun j hj => by show nI (va_cpy _ _ 0 0 44 j) = nI ((pbk T n).2.2.2.2 j); rw [zcpy_in (by omega) (by omega)]; rw [Nat.zero_add, Nat.sub_zero])
                            have hP : va_P g.1 zCL (mW g ad (va_up (va_up fi_213 8 (nI 0)) 12 (nI 0)) (va_up cn_213 4 (nF (pbk T n).2.2.2.2)) xl) _ := hP
                            have hD : va_D (mA ad s.heap.size) (mW g ad (va_up (va_up fi_213 8 (nI 0)) 12 (nI 0)) (va_up cn_213 4 (nF (pbk T n).2.2.2.2)) xl) := hD
                            refine lv_aload_n hx hb dX3_book_298 rfl (lv_at hl 0 rfl) ?_
                            refine va_get (D := g.1) (ci := 3) (v := .ref (ad 4)) (C := RX3) (T := TX3) (N := 30) hx hb hts in_X3 hown hK hP 0 rfl rfl 4 (by decide) (hts _ q1301) (fun _ h9 => h9) rfl dX3_book_299 ?_
                            refine lv_iconst (v := nI 0) hx hb dX3_book_302 (by decide) ?_
                            refine zald hx hb hK hP 4 0 rfl rfl (j := 0) (by omega) (by decide) dX3_book_303 ?_
                            refine zti (show (nF ((pbk T n).2.2.2.2)) 0 = nI (((pbk T n).2.2.2.2) 0) from rfl) ?_
                            exact W.iret (v := nI (((pbk T n).2.2.2.2) 0)) hx hb hr (fun t ht hW => ⟨⟨nI (((pbk T n).2.2.2.2) 0), (va_up (va_up fi_213 8 (nI 0)) 12 (nI 0), va_up cn_213 4 (nF (pbk T n).2.2.2.2), xl), rfl, (by unfold opBook; rw [hT11, hn12, zif_f c_248]; exact ⟨rfl, ⟨((hfr_R239 0 (by decide)).trans hf0), rfl, rfl, ((hfr_R239 19 (by decide)).trans hf19), ((hfr_R239 29 (by decide)).trans hf29), ((hcr_R239 1 (by decide)).trans hc1), ((hcr_R239 2 (by decide)).trans hc2), ((hcr_R239 3 (by decide)).trans hc3), rfl, ((hcr_R239 7 (by decide)).trans hc7), ((hcr_R239 11 (by decide)).trans hc11), ((hcr_R239 26 (by decide)).trans hc26), ((hcr_R239 27 (by decide)).trans hc27), ((hcr_R239 28 (by decide)).trans hc28)⟩, ⟨_, _, _, _, _, _, _, _, _, hq5_R239, ((hcr_R239 6 (by decide)).trans hc6), ((hcr_R239 9 (by decide)).trans hc9), ((hcr_R239 10 (by decide)).trans hc10), ((hcr_R239 24 (by decide)).trans hc24), ((hcr_R239 25 (by decide)).trans hc25), hc21, hc22, ((hfr_R239 23 (by decide)).trans hf23)⟩⟩), by rw [ht]; exact hP, hD⟩, hS.F ht⟩) hS.2.2 dX3_book_304
                          · refine lv_aload_n hx hb dX3_book_280 rfl (lv_at hl 0 rfl) ?_
                            refine va_get (D := g.1) (ci := 3) (v := .ref (ad 4)) (C := RX3) (T := TX3) (N := 30) hx hb hts in_X3 hown hK hP 0 rfl rfl 4 (by decide) (hts _ q1301) (fun _ h9 => h9) rfl dX3_book_281 ?_
                            refine lv_iload_n hx hb dX3_book_284 rfl (lv_at hl 1 rfl) ?_
                            refine lv_aload_n hx hb dX3_book_285 rfl (lv_at hl 0 rfl) ?_
                            refine va_get (D := g.1) (ci := 3) (v := .ref (ad 5)) (C := RX3) (T := TX3) (N := 30) hx hb hts in_X3 hown hK hP 0 rfl rfl 5 (by decide) (hts _ q1302) (fun _ h9 => h9) rfl dX3_book_286 ?_
                            refine lv_iload_n hx hb dX3_book_289 rfl (lv_at hl 1 rfl) ?_
                            refine zald hx hb hK hP 5 0 rfl rfl (j := k) (by omega) (by decide) dX3_book_290 ?_
                            refine zti (congrFun hq5_R239 _) ?_
                            refine zti (show (nF ((pbk T n).2.2.2.2)) k = nI (((pbk T n).2.2.2.2) k) from rfl) ?_
                            refine zast (f := nF (va_cpy (pbk T n).2.2.2.2 (S.2.1 4) 0 0 k)) hx hb hK hP hD hS 4 0 rfl rfl (j := k) (by omega) (by decide) dX3_book_291 (fun H locs hP hD hS => ?_)
                            rw [nF_up] at hP hD
                            have hP : va_P g.1 zCL (mW g ad (va_up (va_up fi_213 8 (nI 0)) 12 (nI 0)) (va_up cn_213 4 (nF (va_up (va_cpy (pbk T n).2.2.2.2 (S.2.1 4) 0 0 k) k (((pbk T n).2.2.2.2) k)))) xl) _ := hP
                            have hD : va_D (mA ad s.heap.size) (mW g ad (va_up (va_up fi_213 8 (nI 0)) 12 (nI 0)) (va_up cn_213 4 (nF (va_up (va_cpy (pbk T n).2.2.2.2 (S.2.1 4) 0 0 k) k (((pbk T n).2.2.2.2) k)))) xl) := hD
                            refine lv_iinc (v := nI (k + 1)) (lv' := [(1, .int (nI (k + 1))), (0, .ref (ad 0))]) hx hb dX3_book_292 hl (k := 1) rfl (nI_add k 1) (by decide) rfl (fun ls hl => ?_)
                            refine lv_goto (tgt := 274) hx hb dX3_book_295 (by decide) ?_
                            rw [show va_up (va_cpy (pbk T n).2.2.2.2 (S.2.1 4) 0 0 k) k ((pbk T n).2.2.2.2 k) = va_cpy (pbk T n).2.2.2.2 (S.2.1 4) 0 0 (k + 1) by have h9 := zcpy_s (pbk T n).2.2.2.2 (S.2.1 4) 0 0 k; rw [Nat.zero_add] at h9; exact h9] at hP hD
                            exact ih_274 (by omega) _ _ _ _ _ ⟨rfl, rfl, hP, hD, hS, lv_sub hl [1, 0] rfl⟩
                        · rw [mW_up (cn := cn_213) (k := 4) (f := nF (va_cpy (pbk T n).2.2.2.2 (S.2.1 4) 0 0 0)) (by rw [zcpy_0]; exact (hcr_R239 4 (by decide)).trans hc4)] at hP
                          rw [mW_up (cn := cn_213) (k := 4) (f := nF (va_cpy (pbk T n).2.2.2.2 (S.2.1 4) 0 0 0)) (by rw [zcpy_0]; exact (hcr_R239 4 (by decide)).trans hc4)] at hD
                          have hP : va_P g.1 zCL (mW g ad (va_up (va_up fi_213 8 (nI 0)) 12 (nI 0)) (va_up cn_213 4 (nF (va_cpy (pbk T n).2.2.2.2 (S.2.1 4) 0 0 0))) xl) _ := hP
                          have hD : va_D (mA ad s.heap.size) (mW g ad (va_up (va_up fi_213 8 (nI 0)) 12 (nI 0)) (va_up cn_213 4 (nF (va_cpy (pbk T n).2.2.2.2 (S.2.1 4) 0 0 0))) xl) := hD
                          exact ⟨rfl, rfl, hP, hD, hS, lv_sub hl [1, 0] rfl⟩
                      · refine lv_aload_n hx hb dX3_book_251 rfl (lv_at hl 0 rfl) ?_
                        refine lv_aload_n hx hb dX3_book_252 rfl (lv_at hl 0 rfl) ?_
                        refine va_get (D := g.1) (ci := 3) (v := .int (fi_213 17)) (C := RX3) (T := TX3) (N := 30) hx hb hts in_X3 hown hK hP 0 rfl rfl 17 (by decide) (hts _ q1314) (fun _ h9 => h9) rfl dX3_book_253 ?_
                        refine zti (hq17_R239) ?_
                        refine va_put (D := g.1) (ci := 3) (v := .int (nI ((pbk T n).2.1))) (ty := .int) (C := RX3) (T := TX3) (N := 30) hx hb hts in_X3 tyX3 tyX3_ok nmX3 hown hK hP hD hS 0 rfl rfl 19 (by decide) (hts _ q1316) (fun _ h9 => h9) rfl (by decide +kernel) rfl rfl (Nat.le_of_ble_eq_true rfl) dX3_book_256 (fun H locs hP hD hS => ?_)
                        have hP : va_P g.1 zCL (mW g ad (va_up (va_up fi_213 12 (nI 0)) 19 (nI ((pbk T n).2.1))) cn_213 xl) _ := hP
                        have hD : va_D (mA ad s.heap.size) (mW g ad (va_up (va_up fi_213 12 (nI 0)) 19 (nI ((pbk T n).2.1))) cn_213 xl) := hD
                        refine lv_ldc hx hb hown (hts _ q1466) dX3_book_259 ?_
                        refine lv_aload_n hx hb dX3_book_261 rfl (lv_at hl 0 rfl) ?_
                        refine va_get (D := g.1) (ci := 3) (v := .int (fi_213 18)) (C := RX3) (T := TX3) (N := 30) hx hb hts in_X3 hown hK hP 0 rfl rfl 18 (by decide) (hts _ q1315) (fun _ h9 => h9) rfl dX3_book_262 ?_
                        refine lv_isub hx hb dX3_book_265 ?_
                        exact W.iret (v := (-1000100) - (fi_213 18)) hx hb hr (fun t ht hW => ⟨⟨(-1000100) - (fi_213 18), (va_up (va_up fi_213 12 (nI 0)) 19 (nI ((pbk T n).2.1)), cn_213, xl), rfl, (by unfold opBook; rw [hT11, hn12, zif_t c_248]; exact ⟨(congrArg (fun z => -1000100 - z) (hq18_R239 c_248)), ⟨((hfr_R239 0 (by decide)).trans hf0), ((hfr_R239 8 (by decide)).trans hf8), rfl, rfl, ((hfr_R239 29 (by decide)).trans hf29), ((hcr_R239 1 (by decide)).trans hc1), ((hcr_R239 2 (by decide)).trans hc2), ((hcr_R239 3 (by decide)).trans hc3), ((hcr_R239 4 (by decide)).trans hc4), ((hcr_R239 7 (by decide)).trans hc7), ((hcr_R239 11 (by decide)).trans hc11), ((hcr_R239 26 (by decide)).trans hc26), ((hcr_R239 27 (by decide)).trans hc27), ((hcr_R239 28 (by decide)).trans hc28)⟩, ⟨_, _, _, _, _, _, _, _, _, hq5_R239, ((hcr_R239 6 (by decide)).trans hc6), ((hcr_R239 9 (by decide)).trans hc9), ((hcr_R239 10 (by decide)).trans hc10), ((hcr_R239 24 (by decide)).trans hc24), ((hcr_R239 25 (by decide)).trans hc25), hc21, hc22, ((hfr_R239 23 (by decide)).trans hf23)⟩⟩), by rw [ht]; exact hP, hD⟩, hS.F ht⟩) hS.2.2 dX3_book_266
                    · refine lv_aload_n hx hb dX3_book_220 rfl (lv_at hl 0 rfl) ?_
                      refine va_get (D := g.1) (ci := 3) (v := .int (fi_213 20)) (C := RX3) (T := TX3) (N := 30) hx hb hts in_X3 hown hK hP 0 rfl rfl 20 (by decide) (hts _ q1317) (fun _ h9 => h9) rfl dX3_book_221 ?_
                      refine zti (hq20_R213) ?_
                      refine lv_aload_n hx hb dX3_book_224 rfl (lv_at hl 0 rfl) ?_
                      refine va_get (D := g.1) (ci := 3) (v := .ref (ad 5)) (C := RX3) (T := TX3) (N := 30) hx hb hts in_X3 hown hK hP 0 rfl rfl 5 (by decide) (hts _ q1302) (fun _ h9 => h9) rfl dX3_book_225 ?_
                      refine lv_iconst (v := nI 0) hx hb dX3_book_228 (by decide) ?_
                      refine zald hx hb hK hP 5 0 rfl rfl (j := 0) (by omega) (by decide) dX3_book_229 ?_
                      refine zti (congrFun hq5_R213 _) ?_
                      refine zti (show (nF ((pbk3 T n).2.2.2.2)) 0 = nI (((pbk3 T n).2.2.2.2) 0) from rfl) ?_
                      refine lv_ishr hx hb dX3_book_230 ?_
                      refine zti (show _ = nI ((pbk3 T n).2.2.2.1 / 2 ^ (pbk3 T n).2.2.2.2 0) from (zshr (by omega) (by omega))) ?_
                      have hdl : (pbk3 T n).2.2.2.1 / 2 ^ (pbk3 T n).2.2.2.2 0 ≤ (pbk3 T n).2.2.2.1 := Nat.div_le_self _ _
                      refine zi_eq (tgt := 239) hx hb (by omega) dX3_book_231 (by decide) (fun c_231 => ?_) (fun c_231 => ?_)
                      · have hPF_R239 : PF T n (pbk T n) fi_213 cn_213 := (by rw [show pbk T n = pbk3 T n from zif_t c_231]; exact ⟨hq13_R213, hq14_R213, hq15_R213, hq16_R213, hq17_R213, hq18_R213, hq20_R213, hq5_R213, hq12_R213, hq11_R213⟩)
                        have hO_R239 : PO T n (pbk T n) := (by rw [show pbk T n = pbk3 T n from zif_t c_231]; exact hO_R213)
                        have ho__R239 := hO_R239
                        obtain ⟨ho1_R239, _, _, ho4_R239, ho16_R239, hoF_R239⟩ := ho__R239
                        have he13_R239 := tkE_le (T := T) ho1_R239
                        have hk15_R239 := tkK_le T n (pbk T n).1
                        obtain ⟨hq13_R239, hq14_R239, hq15_R239, hq16_R239, hq17_R239, hq18_R239, hq20_R239, hq5_R239, hq12_R239, hq11_R239⟩ := hPF_R239
                        have hfr_R239 := hfr_R213
                        have hcr_R239 := hcr_R213
                        refine lv_aload_n hx hb dX3_book_239 rfl (lv_at hl 0 rfl) ?_
                        refine lv_iconst (v := nI 0) hx hb dX3_book_240 (by decide) ?_
                        refine va_put (D := g.1) (ci := 3) (v := .int (nI 0)) (ty := .int) (C := RX3) (T := TX3) (N := 30) hx hb hts in_X3 tyX3 tyX3_ok nmX3 hown hK hP hD hS 0 rfl rfl 12 (by decide) (hts _ q1309) (fun _ h9 => h9) rfl (by decide +kernel) rfl rfl (Nat.le_of_ble_eq_true rfl) dX3_book_241 (fun H locs hP hD hS => ?_)
                        have hP : va_P g.1 zCL (mW g ad (va_up fi_213 12 (nI 0)) cn_213 xl) _ := hP
                        have hD : va_D (mA ad s.heap.size) (mW g ad (va_up fi_213 12 (nI 0)) cn_213 xl) := hD
                        refine lv_aload_n hx hb dX3_book_244 rfl (lv_at hl 0 rfl) ?_
                        refine va_get (D := g.1) (ci := 3) (v := .int (fi_213 17)) (C := RX3) (T := TX3) (N := 30) hx hb hts in_X3 hown hK hP 0 rfl rfl 17 (by decide) (hts _ q1314) (fun _ h9 => h9) rfl dX3_book_245 ?_
                        refine zti (hq17_R239) ?_
                        refine zi_le (tgt := 267) hx hb (by omega) dX3_book_248 (by decide) (fun c_248 => ?_) (fun c_248 => ?_)
                        · refine lv_aload_n hx hb dX3_book_267 rfl (lv_at hl 0 rfl) ?_
                          refine lv_iconst (v := nI 0) hx hb dX3_book_268 (by decide) ?_
                          refine va_put (D := g.1) (ci := 3) (v := .int (nI 0)) (ty := .int) (C := RX3) (T := TX3) (N := 30) hx hb hts in_X3 tyX3 tyX3_ok nmX3 hown hK hP hD hS 0 rfl rfl 8 (by decide) (hts _ q1305) (fun _ h9 => h9) rfl (by decide +kernel) rfl rfl (Nat.le_of_ble_eq_true rfl) dX3_book_269 (fun H locs hP hD hS => ?_)
                          have hP : va_P g.1 zCL (mW g ad (va_up (va_up fi_213 8 (nI 0)) 12 (nI 0)) cn_213 xl) _ := hP
                          have hD : va_D (mA ad s.heap.size) (mW g ad (va_up (va_up fi_213 8 (nI 0)) 12 (nI 0)) cn_213 xl) := hD
                          refine lv_iconst (v := nI 0) hx hb dX3_book_272 (by decide) ?_
                          refine lv_istore_n (lv' := [(1, .int (nI 0)), (0, .ref (ad 0))]) hx hb dX3_book_273 rfl hl (by decide) rfl (fun ls hl => ?_)
                          refine zloopW (head := 274) (44) (fun k H locs cells slots ls => cells = 0 ∧ slots = 0 ∧ va_P g.1 zCL (mW g ad (va_up (va_up fi_213 8 (nI 0)) 12 (nI 0)) (va_up cn_213 4 (nF (va_cpy (pbk T n).2.2.2.2 (S.2.1 4) 0 0 k))) xl) H ∧ va_D (mA ad s.heap.size) (mW g ad (va_up (va_up fi_213 8 (nI 0)) 12 (nI 0)) (va_up cn_213 4 (nF (va_cpy (pbk T n).2.2.2.2 (S.2.1 4) 0 0 k))) xl) ∧ va_S (mA ad s.heap.size) s.heap H locs ∧ lv_has ls 2 [(0, .ref (ad 0)), (1, .int (nI k))]) (fun k hv_k ih_274 H locs cells slots ls hI => ?_) 0 (Nat.zero_le _) ?_
                          · obtain ⟨rfl, rfl, hP, hD, hS, hl⟩ := hI
                            refine lv_iload_n hx hb dX3_book_274 rfl (lv_at hl 1 rfl) ?_
                            refine lv_bipush (v := nI 44) hx hb dX3_book_275 (by decide) ?_
                            refine zc_ge (tgt := 298) hx hb (by omega) (by omega) dX3_book_277 (by decide) (fun c_277 => ?_) (fun c_277 => ?_)
                            · obtain rfl : 44 = k := by omega
                              obtain ⟨hP, hD⟩ := hP.exi hD 4 (f' := nF (pbk T n).2.2.2.2) rfl (fun j hj => by show nI (va_cpy _ _ 0 0 44 j) = nI ((pbk T n).2.2.2.2 j); rw [zcpy_in (by omega) (by omega)]; rw [Nat.zero_add, Nat.sub_zero])
                              have hP : va_P g.1 zCL (mW g ad (va_up (va_up fi_213 8 (nI 0)) 12 (nI 0)) (va_up cn_213 4 (nF (pbk T n).2.2.2.2)) xl) _ := hP
                              have hD : va_D (mA ad s.heap.size) (mW g ad (va_up (va_up fi_213 8 (nI 0)) 12 (nI 0)) (va_up cn_213 4 (nF (pbk T n).2.2.2.2)) xl) := hD
                              refine lv_aload_n hx hb dX3_book_298 rfl (lv_at hl 0 rfl) ?_
                              refine va_get (D := g.1) (ci := 3) (v := .ref (ad 4)) (C := RX3) (T := TX3) (N := 30) hx hb hts in_X3 hown hK hP 0 rfl rfl 4 (by decide) (hts _ q1301) (fun _ h9 => h9) rfl dX3_book_299 ?_
                              refine lv_iconst (v := nI 0) hx hb dX3_book_302 (by decide) ?_
                              refine zald hx hb hK hP 4 0 rfl rfl (j := 0) (by omega) (by decide) dX3_book_303 ?_
                              refine zti (show (nF ((pbk T n).2.2.2.2)) 0 = nI (((pbk T n).2.2.2.2) 0) from rfl) ?_
                              exact W.iret (v := nI (((pbk T n).2.2.2.2) 0)) hx hb hr (fun t ht hW => ⟨⟨nI (((pbk T n).2.2.2.2) 0), (va_up (va_up fi_213 8 (nI 0)) 12 (nI 0), va_up cn_213 4 (nF (pbk T n).2.2.2.2), xl), rfl, (by unfold opBook; rw [hT11, hn12, zif_f c_248]; exact ⟨rfl, ⟨((hfr_R239 0 (by decide)).trans hf0), rfl, rfl, ((hfr_R239 19 (by decide)).trans hf19), ((hfr_R239 29 (by decide)).trans hf29), ((hcr_R239 1 (by decide)).trans hc1), ((hcr_R239 2 (by decide)).trans hc2), ((hcr_R239 3 (by decide)).trans hc3), rfl, ((hcr_R239 7 (by decide)).trans hc7), ((hcr_R239 11 (by decide)).trans hc11), ((hcr_R239 26 (by decide)).trans hc26), ((hcr_R239 27 (by decide)).trans hc27), ((hcr_R239 28 (by decide)).trans hc28)⟩, ⟨_, _, _, _, _, _, _, _, _, hq5_R239, ((hcr_R239 6 (by decide)).trans hc6), ((hcr_R239 9 (by decide)).trans hc9), ((hcr_R239 10 (by decide)).trans hc10), ((hcr_R239 24 (by decide)).trans hc24), ((hcr_R239 25 (by decide)).trans hc25), hc21, hc22, ((hfr_R239 23 (by decide)).trans hf23)⟩⟩), by rw [ht]; exact hP, hD⟩, hS.F ht⟩) hS.2.2 dX3_book_304
                            · refine lv_aload_n hx hb dX3_book_280 rfl (lv_at hl 0 rfl) ?_
                              refine va_get (D := g.1) (ci := 3) (v := .ref (ad 4)) (C := RX3) (T := TX3) (N := 30) hx hb hts in_X3 hown hK hP 0 rfl rfl 4 (by decide) (hts _ q1301) (fun _ h9 => h9) rfl dX3_book_281 ?_
                              refine lv_iload_n hx hb dX3_book_284 rfl (lv_at hl 1 rfl) ?_
                              refine lv_aload_n hx hb dX3_book_285 rfl (lv_at hl 0 rfl) ?_
                              refine va_get (D := g.1) (ci := 3) (v := .ref (ad 5)) (C := RX3) (T := TX3) (N := 30) hx hb hts in_X3 hown hK hP 0 rfl rfl 5 (by decide) (hts _ q1302) (fun _ h9 => h9) rfl dX3_book_286 ?_
                              refine lv_iload_n hx hb dX3_book_289 rfl (lv_at hl 1 rfl) ?_
                              refine zald hx hb hK hP 5 0 rfl rfl (j := k) (by omega) (by decide) dX3_book_290 ?_
                              refine zti (congrFun hq5_R239 _) ?_
                              refine zti (show (nF ((pbk T n).2.2.2.2)) k = nI (((pbk T n).2.2.2.2) k) from rfl) ?_
                              refine zast (f := nF (va_cpy (pbk T n).2.2.2.2 (S.2.1 4) 0 0 k)) hx hb hK hP hD hS 4 0 rfl rfl (j := k) (by omega) (by decide) dX3_book_291 (fun H locs hP hD hS => ?_)
                              rw [nF_up] at hP hD
                              have hP : va_P g.1 zCL (mW g ad (va_up (va_up fi_213 8 (nI 0)) 12 (nI 0)) (va_up cn_213 4 (nF (va_up (va_cpy (pbk T n).2.2.2.2 (S.2.1 4) 0 0 k) k (((pbk T n).2.2.2.2) k)))) xl) _ := hP
                              have hD : va_D (mA ad s.heap.size) (mW g ad (va_up (va_up fi_213 8 (nI 0)) 12 (nI 0)) (va_up cn_213 4 (nF (va_up (va_cpy (pbk T n).2.2.2.2 (S.2.1 4) 0 0 k) k (((pbk T n).2.2.2.2) k)))) xl) := hD
                              refine lv_iinc (v := nI (k + 1)) (lv' := [(1, .int (nI (k + 1))), (0, .ref (ad 0))]) hx hb dX3_book_292 hl (k := 1) rfl (nI_add k 1) (by decide) rfl (fun ls hl => ?_)
                              refine lv_goto (tgt := 274) hx hb dX3_book_295 (by decide) ?_
                              rw [show va_up (va_cpy (pbk T n).2.2.2.2 (S.2.1 4) 0 0 k) k ((pbk T n).2.2.2.2 k) = va_cpy (pbk T n).2.2.2.2 (S.2.1 4) 0 0 (k + 1) by have h9 := zcpy_s (pbk T n).2.2.2.2 (S.2.1 4) 0 0 k; rw [Nat.zero_add] at h9; exact h9] at hP hD
                              exact ih_274 (by omega) _ _ _ _ _ ⟨rfl, rfl, hP, hD, hS, lv_sub hl [1, 0] rfl⟩
                          · rw [mW_up (cn := cn_213) (k := 4) (f := nF (va_cpy (pbk T n).2.2.2.2 (S.2.1 4) 0 0 0)) (by rw [zcpy_0]; exact (hcr_R239 4 (by decide)).trans hc4)] at hP
                            rw [mW_up (cn := cn_213) (k := 4) (f := nF (va_cpy (pbk T n).2.2.2.2 (S.2.1 4) 0 0 0)) (by rw [zcpy_0]; exact (hcr_R239 4 (by decide)).trans hc4)] at hD
                            have hP : va_P g.1 zCL (mW g ad (va_up (va_up fi_213 8 (nI 0)) 12 (nI 0)) (va_up cn_213 4 (nF (va_cpy (pbk T n).2.2.2.2 (S.2.1 4) 0 0 0))) xl) _ := hP
                            have hD : va_D (mA ad s.heap.size) (mW g ad (va_up (va_up fi_213 8 (nI 0)) 12 (nI 0)) (va_up cn_213 4 (nF (va_cpy (pbk T n).2.2.2.2 (S.2.1 4) 0 0 0))) xl) := hD
                            exact ⟨rfl, rfl, hP, hD, hS, lv_sub hl [1, 0] rfl⟩
                        · refine lv_aload_n hx hb dX3_book_251 rfl (lv_at hl 0 rfl) ?_
                          refine lv_aload_n hx hb dX3_book_252 rfl (lv_at hl 0 rfl) ?_
                          refine va_get (D := g.1) (ci := 3) (v := .int (fi_213 17)) (C := RX3) (T := TX3) (N := 30) hx hb hts in_X3 hown hK hP 0 rfl rfl 17 (by decide) (hts _ q1314) (fun _ h9 => h9) rfl dX3_book_253 ?_
                          refine zti (hq17_R239) ?_
                          refine va_put (D := g.1) (ci := 3) (v := .int (nI ((pbk T n).2.1))) (ty := .int) (C := RX3) (T := TX3) (N := 30) hx hb hts in_X3 tyX3 tyX3_ok nmX3 hown hK hP hD hS 0 rfl rfl 19 (by decide) (hts _ q1316) (fun _ h9 => h9) rfl (by decide +kernel) rfl rfl (Nat.le_of_ble_eq_true rfl) dX3_book_256 (fun H locs hP hD hS => ?_)
                          have hP : va_P g.1 zCL (mW g ad (va_up (va_up fi_213 12 (nI 0)) 19 (nI ((pbk T n).2.1))) cn_213 xl) _ := hP
                          have hD : va_D (mA ad s.heap.size) (mW g ad (va_up (va_up fi_213 12 (nI 0)) 19 (nI ((pbk T n).2.1))) cn_213 xl) := hD
                          refine lv_ldc hx hb hown (hts _ q1466) dX3_book_259 ?_
                          refine lv_aload_n hx hb dX3_book_261 rfl (lv_at hl 0 rfl) ?_
                          refine va_get (D := g.1) (ci := 3) (v := .int (fi_213 18)) (C := RX3) (T := TX3) (N := 30) hx hb hts in_X3 hown hK hP 0 rfl rfl 18 (by decide) (hts _ q1315) (fun _ h9 => h9) rfl dX3_book_262 ?_
                          refine lv_isub hx hb dX3_book_265 ?_
                          exact W.iret (v := (-1000100) - (fi_213 18)) hx hb hr (fun t ht hW => ⟨⟨(-1000100) - (fi_213 18), (va_up (va_up fi_213 12 (nI 0)) 19 (nI ((pbk T n).2.1)), cn_213, xl), rfl, (by unfold opBook; rw [hT11, hn12, zif_t c_248]; exact ⟨(congrArg (fun z => -1000100 - z) (hq18_R239 c_248)), ⟨((hfr_R239 0 (by decide)).trans hf0), ((hfr_R239 8 (by decide)).trans hf8), rfl, rfl, ((hfr_R239 29 (by decide)).trans hf29), ((hcr_R239 1 (by decide)).trans hc1), ((hcr_R239 2 (by decide)).trans hc2), ((hcr_R239 3 (by decide)).trans hc3), ((hcr_R239 4 (by decide)).trans hc4), ((hcr_R239 7 (by decide)).trans hc7), ((hcr_R239 11 (by decide)).trans hc11), ((hcr_R239 26 (by decide)).trans hc26), ((hcr_R239 27 (by decide)).trans hc27), ((hcr_R239 28 (by decide)).trans hc28)⟩, ⟨_, _, _, _, _, _, _, _, _, hq5_R239, ((hcr_R239 6 (by decide)).trans hc6), ((hcr_R239 9 (by decide)).trans hc9), ((hcr_R239 10 (by decide)).trans hc10), ((hcr_R239 24 (by decide)).trans hc24), ((hcr_R239 25 (by decide)).trans hc25), hc21, hc22, ((hfr_R239 23 (by decide)).trans hf23)⟩⟩), by rw [ht]; exact hP, hD⟩, hS.F ht⟩) hS.2.2 dX3_book_266
                      · refine lv_aload_n hx hb dX3_book_234 rfl (lv_at hl 0 rfl) ?_
                        refine lv_iconst (v := nI 4) hx hb dX3_book_235 (by decide) ?_
                        have hle_236 := hS.1
                        refine va_callv (va_runV (As := [.int (nI 4)]) (rest := []) ⟨hx, hb, hml, hown, hts⟩ (m_X3_bad l g ad fi_213 cn_213 xl _ T n (pbk3 T n) (show PF T n (pbk3 T n) fi_213 cn_213 from ⟨hq13_R213, hq14_R213, hq15_R213, hq16_R213, hq17_R213, hq18_R213, hq20_R213, hq5_R213, hq12_R213, hq11_R213⟩) hO_R213 4 (by decide)) (cwV 1 hts (lw_V q1442 q1444 qs34 q69 q1445) rfl rfl rfl hdV_X3_bad ⟨Nat.le_of_ble_eq_true rfl, Nat.le_of_ble_eq_true rfl⟩) (zpreV hK hN (va_recv hK hP (ci := 3) (q0 := 0) rfl rfl) ⟨rfl, hP, hD.weaken (fun _ _ _ _ => trivial)⟩) rfl rfl hl.1 rfl (lv_room (Nat.le_of_ble_eq_true rfl)) dX3_book_236 ⟨Nat.le_of_ble_eq_true rfl, Nat.le_of_ble_eq_true rfl⟩) hS (fun q _ h => mA_le hS.1 q h) (mA_le hS.1) (fun u t H locs ht hvm hw_236 hB hzz hkk hS => ?_)
                        obtain ⟨hP, hD⟩ := hB
                        rw [ht] at hP
                        have hD := hD.weaken (fun _ _ _ h => mA_le hle_236 _ h)
                        obtain ⟨fi_239, cn_239, xl_239⟩ := u
                        obtain ⟨_, hPF_239, hO_239, hxl_239, hfr_239, hcr_239⟩ := hw_236
                        have hxl_239 : xl = xl_239 := hxl_239.symm
                        subst hxl_239
                        have hPF_239 : PF T n (pbad 4 (pbk3 T n)) fi_239 cn_239 := hPF_239
                        have hO_239 : PO T n (pbad 4 (pbk3 T n)) := hO_239
                        have ho__239 := hO_239
                        obtain ⟨ho1_239, _, _, ho4_239, ho16_239, hoF_239⟩ := ho__239
                        have he13_239 := tkE_le (T := T) ho1_239
                        have hk15_239 := tkK_le T n (pbad 4 (pbk3 T n)).1
                        obtain ⟨hq13_239, hq14_239, hq15_239, hq16_239, hq17_239, hq18_239, hq20_239, hq5_239, hq12_239, hq11_239⟩ := hPF_239
                        have hfr_239 : ∀ k, (k < 13 ∨ 20 < k ∨ k = 19) → fi_239 k = fi k := fun k hk => (hfr_239 k hk).trans (hfr_R213 k hk)
                        have hcr_239 : ∀ k, k ≠ 5 → cn_239 k = cn k := fun k hk => (hcr_239 k hk).trans (hcr_R213 k hk)
                        have hP : va_P g.1 zCL (mW g ad fi_239 cn_239 xl) _ := hP
                        have hD : va_D (mA ad s.heap.size) (mW g ad fi_239 cn_239 xl) := hD
                        have hPF_R239 : PF T n (pbk T n) fi_239 cn_239 := (by rw [show pbk T n = pbad 4 (pbk3 T n) from zif_f c_231]; exact ⟨hq13_239, hq14_239, hq15_239, hq16_239, hq17_239, hq18_239, hq20_239, hq5_239, hq12_239, hq11_239⟩)
                        have hO_R239 : PO T n (pbk T n) := (by rw [show pbk T n = pbad 4 (pbk3 T n) from zif_f c_231]; exact hO_239)
                        have ho__R239 := hO_R239
                        obtain ⟨ho1_R239, _, _, ho4_R239, ho16_R239, hoF_R239⟩ := ho__R239
                        have he13_R239 := tkE_le (T := T) ho1_R239
                        have hk15_R239 := tkK_le T n (pbk T n).1
                        obtain ⟨hq13_R239, hq14_R239, hq15_R239, hq16_R239, hq17_R239, hq18_R239, hq20_R239, hq5_R239, hq12_R239, hq11_R239⟩ := hPF_R239
                        have hfr_R239 := hfr_239
                        have hcr_R239 := hcr_239
                        refine lv_aload_n hx hb dX3_book_239 rfl (lv_at hl 0 rfl) ?_
                        refine lv_iconst (v := nI 0) hx hb dX3_book_240 (by decide) ?_
                        refine va_put (D := g.1) (ci := 3) (v := .int (nI 0)) (ty := .int) (C := RX3) (T := TX3) (N := 30) hx hb hts in_X3 tyX3 tyX3_ok nmX3 hown hK hP hD hS 0 rfl rfl 12 (by decide) (hts _ q1309) (fun _ h9 => h9) rfl (by decide +kernel) rfl rfl (Nat.le_of_ble_eq_true rfl) dX3_book_241 (fun H locs hP hD hS => ?_)
                        have hP : va_P g.1 zCL (mW g ad (va_up fi_239 12 (nI 0)) cn_239 xl) _ := hP
                        have hD : va_D (mA ad s.heap.size) (mW g ad (va_up fi_239 12 (nI 0)) cn_239 xl) := hD
                        refine lv_aload_n hx hb dX3_book_244 rfl (lv_at hl 0 rfl) ?_
                        refine va_get (D := g.1) (ci := 3) (v := .int (fi_239 17)) (C := RX3) (T := TX3) (N := 30) hx hb hts in_X3 hown hK hP 0 rfl rfl 17 (by decide) (hts _ q1314) (fun _ h9 => h9) rfl dX3_book_245 ?_
                        refine zti (hq17_R239) ?_
                        refine zi_le (tgt := 267) hx hb (by omega) dX3_book_248 (by decide) (fun c_248 => ?_) (fun c_248 => ?_)
                        · refine lv_aload_n hx hb dX3_book_267 rfl (lv_at hl 0 rfl) ?_
                          refine lv_iconst (v := nI 0) hx hb dX3_book_268 (by decide) ?_
                          refine va_put (D := g.1) (ci := 3) (v := .int (nI 0)) (ty := .int) (C := RX3) (T := TX3) (N := 30) hx hb hts in_X3 tyX3 tyX3_ok nmX3 hown hK hP hD hS 0 rfl rfl 8 (by decide) (hts _ q1305) (fun _ h9 => h9) rfl (by decide +kernel) rfl rfl (Nat.le_of_ble_eq_true rfl) dX3_book_269 (fun H locs hP hD hS => ?_)
                          have hP : va_P g.1 zCL (mW g ad (va_up (va_up fi_239 8 (nI 0)) 12 (nI 0)) cn_239 xl) _ := hP
                          have hD : va_D (mA ad s.heap.size) (mW g ad (va_up (va_up fi_239 8 (nI 0)) 12 (nI 0)) cn_239 xl) := hD
                          refine lv_iconst (v := nI 0) hx hb dX3_book_272 (by decide) ?_
                          refine lv_istore_n (lv' := [(1, .int (nI 0)), (0, .ref (ad 0))]) hx hb dX3_book_273 rfl hl (by decide) rfl (fun ls hl => ?_)
                          refine zloopW (head := 274) (44) (fun k H locs cells slots ls => cells = 0 ∧ slots = 0 ∧ va_P g.1 zCL (mW g ad (va_up (va_up fi_239 8 (nI 0)) 12 (nI 0)) (va_up cn_239 4 (nF (va_cpy (pbk T n).2.2.2.2 (S.2.1 4) 0 0 k))) xl) H ∧ va_D (mA ad s.heap.size) (mW g ad (va_up (va_up fi_239 8 (nI 0)) 12 (nI 0)) (va_up cn_239 4 (nF (va_cpy (pbk T n).2.2.2.2 (S.2.1 4) 0 0 k))) xl) ∧ va_S (mA ad s.heap.size) s.heap H locs ∧ lv_has ls 2 [(0, .ref (ad 0)), (1, .int (nI k))]) (fun k hv_k ih_274 H locs cells slots ls hI => ?_) 0 (Nat.zero_le _) ?_
                          · obtain ⟨rfl, rfl, hP, hD, hS, hl⟩ := hI
                            refine lv_iload_n hx hb dX3_book_274 rfl (lv_at hl 1 rfl) ?_
                            refine lv_bipush (v := nI 44) hx hb dX3_book_275 (by decide) ?_
                            refine zc_ge (tgt := 298) hx hb (by omega) (by omega) dX3_book_277 (by decide) (fun c_277 => ?_) (fun c_277 => ?_)
                            · obtain rfl : 44 = k := by omega
                              obtain ⟨hP, hD⟩ := hP.exi hD 4 (f' := nF (pbk T n).2.2.2.2) rfl (fun j hj => by show nI (va_cpy _ _ 0 0 44 j) = nI ((pbk T n).2.2.2.2 j); rw [zcpy_in (by omega) (by omega)]; rw [Nat.zero_add, Nat.sub_zero])
                              have hP : va_P g.1 zCL (mW g ad (va_up (va_up fi_239 8 (nI 0)) 12 (nI 0)) (va_up cn_239 4 (nF (pbk T n).2.2.2.2)) xl) _ := hP
                              have hD : va_D (mA ad s.heap.size) (mW g ad (va_up (va_up fi_239 8 (nI 0)) 12 (nI 0)) (va_up cn_239 4 (nF (pbk T n).2.2.2.2)) xl) := hD
                              refine lv_aload_n hx hb dX3_book_298 rfl (lv_at hl 0 rfl) ?_
                              refine va_get (D := g.1) (ci := 3) (v := .ref (ad 4)) (C := RX3) (T := TX3) (N := 30) hx hb hts in_X3 hown hK hP 0 rfl rfl 4 (by decide) (hts _ q1301) (fun _ h9 => h9) rfl dX3_book_299 ?_
                              refine lv_iconst (v := nI 0) hx hb dX3_book_302 (by decide) ?_
                              refine zald hx hb hK hP 4 0 rfl rfl (j := 0) (by omega) (by decide) dX3_book_303 ?_
                              refine zti (show (nF ((pbk T n).2.2.2.2)) 0 = nI (((pbk T n).2.2.2.2) 0) from rfl) ?_
                              exact W.iret (v := nI (((pbk T n).2.2.2.2) 0)) hx hb hr (fun t ht hW => ⟨⟨nI (((pbk T n).2.2.2.2) 0), (va_up (va_up fi_239 8 (nI 0)) 12 (nI 0), va_up cn_239 4 (nF (pbk T n).2.2.2.2), xl), rfl, (by unfold opBook; rw [hT11, hn12, zif_f c_248]; exact ⟨rfl, ⟨((hfr_R239 0 (by decide)).trans hf0), rfl, rfl, ((hfr_R239 19 (by decide)).trans hf19), ((hfr_R239 29 (by decide)).trans hf29), ((hcr_R239 1 (by decide)).trans hc1), ((hcr_R239 2 (by decide)).trans hc2), ((hcr_R239 3 (by decide)).trans hc3), rfl, ((hcr_R239 7 (by decide)).trans hc7), ((hcr_R239 11 (by decide)).trans hc11), ((hcr_R239 26 (by decide)).trans hc26), ((hcr_R239 27 (by decide)).trans hc27), ((hcr_R239 28 (by decide)).trans hc28)⟩, ⟨_, _, _, _, _, _, _, _, _, hq5_R239, ((hcr_R239 6 (by decide)).trans hc6), ((hcr_R239 9 (by decide)).trans hc9), ((hcr_R239 10 (by decide)).trans hc10), ((hcr_R239 24 (by decide)).trans hc24), ((hcr_R239 25 (by decide)).trans hc25), hc21, hc22, ((hfr_R239 23 (by decide)).trans hf23)⟩⟩), by rw [ht]; exact hP, hD⟩, hS.F ht⟩) hS.2.2 dX3_book_304
                            · refine lv_aload_n hx hb dX3_book_280 rfl (lv_at hl 0 rfl) ?_
                              refine va_get (D := g.1) (ci := 3) (v := .ref (ad 4)) (C := RX3) (T := TX3) (N := 30) hx hb hts in_X3 hown hK hP 0 rfl rfl 4 (by decide) (hts _ q1301) (fun _ h9 => h9) rfl dX3_book_281 ?_
                              refine lv_iload_n hx hb dX3_book_284 rfl (lv_at hl 1 rfl) ?_
                              refine lv_aload_n hx hb dX3_book_285 rfl (lv_at hl 0 rfl) ?_
                              refine va_get (D := g.1) (ci := 3) (v := .ref (ad 5)) (C := RX3) (T := TX3) (N := 30) hx hb hts in_X3 hown hK hP 0 rfl rfl 5 (by decide) (hts _ q1302) (fun _ h9 => h9) rfl dX3_book_286 ?_
                              refine lv_iload_n hx hb dX3_book_289 rfl (lv_at hl 1 rfl) ?_
                              refine zald hx hb hK hP 5 0 rfl rfl (j := k) (by omega) (by decide) dX3_book_290 ?_
                              refine zti (congrFun hq5_R239 _) ?_
                              refine zti (show (nF ((pbk T n).2.2.2.2)) k = nI (((pbk T n).2.2.2.2) k) from rfl) ?_
                              refine zast (f := nF (va_cpy (pbk T n).2.2.2.2 (S.2.1 4) 0 0 k)) hx hb hK hP hD hS 4 0 rfl rfl (j := k) (by omega) (by decide) dX3_book_291 (fun H locs hP hD hS => ?_)
                              rw [nF_up] at hP hD
                              have hP : va_P g.1 zCL (mW g ad (va_up (va_up fi_239 8 (nI 0)) 12 (nI 0)) (va_up cn_239 4 (nF (va_up (va_cpy (pbk T n).2.2.2.2 (S.2.1 4) 0 0 k) k (((pbk T n).2.2.2.2) k)))) xl) _ := hP
                              have hD : va_D (mA ad s.heap.size) (mW g ad (va_up (va_up fi_239 8 (nI 0)) 12 (nI 0)) (va_up cn_239 4 (nF (va_up (va_cpy (pbk T n).2.2.2.2 (S.2.1 4) 0 0 k) k (((pbk T n).2.2.2.2) k)))) xl) := hD
                              refine lv_iinc (v := nI (k + 1)) (lv' := [(1, .int (nI (k + 1))), (0, .ref (ad 0))]) hx hb dX3_book_292 hl (k := 1) rfl (nI_add k 1) (by decide) rfl (fun ls hl => ?_)
                              refine lv_goto (tgt := 274) hx hb dX3_book_295 (by decide) ?_
                              rw [show va_up (va_cpy (pbk T n).2.2.2.2 (S.2.1 4) 0 0 k) k ((pbk T n).2.2.2.2 k) = va_cpy (pbk T n).2.2.2.2 (S.2.1 4) 0 0 (k + 1) by have h9 := zcpy_s (pbk T n).2.2.2.2 (S.2.1 4) 0 0 k; rw [Nat.zero_add] at h9; exact h9] at hP hD
                              exact ih_274 (by omega) _ _ _ _ _ ⟨rfl, rfl, hP, hD, hS, lv_sub hl [1, 0] rfl⟩
                          · rw [mW_up (cn := cn_239) (k := 4) (f := nF (va_cpy (pbk T n).2.2.2.2 (S.2.1 4) 0 0 0)) (by rw [zcpy_0]; exact (hcr_R239 4 (by decide)).trans hc4)] at hP
                            rw [mW_up (cn := cn_239) (k := 4) (f := nF (va_cpy (pbk T n).2.2.2.2 (S.2.1 4) 0 0 0)) (by rw [zcpy_0]; exact (hcr_R239 4 (by decide)).trans hc4)] at hD
                            have hP : va_P g.1 zCL (mW g ad (va_up (va_up fi_239 8 (nI 0)) 12 (nI 0)) (va_up cn_239 4 (nF (va_cpy (pbk T n).2.2.2.2 (S.2.1 4) 0 0 0))) xl) _ := hP
                            have hD : va_D (mA ad s.heap.size) (mW g ad (va_up (va_up fi_239 8 (nI 0)) 12 (nI 0)) (va_up cn_239 4 (nF (va_cpy (pbk T n).2.2.2.2 (S.2.1 4) 0 0 0))) xl) := hD
                            exact ⟨rfl, rfl, hP, hD, hS, lv_sub hl [1, 0] rfl⟩
                        · refine lv_aload_n hx hb dX3_book_251 rfl (lv_at hl 0 rfl) ?_
                          refine lv_aload_n hx hb dX3_book_252 rfl (lv_at hl 0 rfl) ?_
                          refine va_get (D := g.1) (ci := 3) (v := .int (fi_239 17)) (C := RX3) (T := TX3) (N := 30) hx hb hts in_X3 hown hK hP 0 rfl rfl 17 (by decide) (hts _ q1314) (fun _ h9 => h9) rfl dX3_book_253 ?_
                          refine zti (hq17_R239) ?_
                          refine va_put (D := g.1) (ci := 3) (v := .int (nI ((pbk T n).2.1))) (ty := .int) (C := RX3) (T := TX3) (N := 30) hx hb hts in_X3 tyX3 tyX3_ok nmX3 hown hK hP hD hS 0 rfl rfl 19 (by decide) (hts _ q1316) (fun _ h9 => h9) rfl (by decide +kernel) rfl rfl (Nat.le_of_ble_eq_true rfl) dX3_book_256 (fun H locs hP hD hS => ?_)
                          have hP : va_P g.1 zCL (mW g ad (va_up (va_up fi_239 12 (nI 0)) 19 (nI ((pbk T n).2.1))) cn_239 xl) _ := hP
                          have hD : va_D (mA ad s.heap.size) (mW g ad (va_up (va_up fi_239 12 (nI 0)) 19 (nI ((pbk T n).2.1))) cn_239 xl) := hD
                          refine lv_ldc hx hb hown (hts _ q1466) dX3_book_259 ?_
                          refine lv_aload_n hx hb dX3_book_261 rfl (lv_at hl 0 rfl) ?_
                          refine va_get (D := g.1) (ci := 3) (v := .int (fi_239 18)) (C := RX3) (T := TX3) (N := 30) hx hb hts in_X3 hown hK hP 0 rfl rfl 18 (by decide) (hts _ q1315) (fun _ h9 => h9) rfl dX3_book_262 ?_
                          refine lv_isub hx hb dX3_book_265 ?_
                          exact W.iret (v := (-1000100) - (fi_239 18)) hx hb hr (fun t ht hW => ⟨⟨(-1000100) - (fi_239 18), (va_up (va_up fi_239 12 (nI 0)) 19 (nI ((pbk T n).2.1)), cn_239, xl), rfl, (by unfold opBook; rw [hT11, hn12, zif_t c_248]; exact ⟨(congrArg (fun z => -1000100 - z) (hq18_R239 c_248)), ⟨((hfr_R239 0 (by decide)).trans hf0), ((hfr_R239 8 (by decide)).trans hf8), rfl, rfl, ((hfr_R239 29 (by decide)).trans hf29), ((hcr_R239 1 (by decide)).trans hc1), ((hcr_R239 2 (by decide)).trans hc2), ((hcr_R239 3 (by decide)).trans hc3), ((hcr_R239 4 (by decide)).trans hc4), ((hcr_R239 7 (by decide)).trans hc7), ((hcr_R239 11 (by decide)).trans hc11), ((hcr_R239 26 (by decide)).trans hc26), ((hcr_R239 27 (by decide)).trans hc27), ((hcr_R239 28 (by decide)).trans hc28)⟩, ⟨_, _, _, _, _, _, _, _, _, hq5_R239, ((hcr_R239 6 (by decide)).trans hc6), ((hcr_R239 9 (by decide)).trans hc9), ((hcr_R239 10 (by decide)).trans hc10), ((hcr_R239 24 (by decide)).trans hc24), ((hcr_R239 25 (by decide)).trans hc25), hc21, hc22, ((hfr_R239 23 (by decide)).trans hf23)⟩⟩), by rw [ht]; exact hP, hD⟩, hS.F ht⟩) hS.2.2 dX3_book_266
              · refine lv_aload_n hx hb dX3_book_149 rfl (lv_at hl 0 rfl) ?_
                refine va_get (D := g.1) (ci := 3) (v := .int (fi_L105 15)) (C := RX3) (T := TX3) (N := 30) hx hb hts in_X3 hown hK hP 0 rfl rfl 15 (by decide) (hts _ q1312) (fun _ h9 => h9) rfl dX3_book_150 ?_
                refine zti (hq15_L105) ?_
                refine lv_iconst (v := nI 2) hx hb dX3_book_153 (by decide) ?_
                refine zc_ne (tgt := 170) hx hb (by omega) (by omega) dX3_book_154 (by decide) (fun c_154 => ?_) (fun c_154 => ?_)
                · refine lv_iconst (v := nI 0) hx hb dX3_book_170 (by decide) ?_
                  exact jn_149 _ ((zB_f (fun z => c_154 z.1)).symm)
                · refine lv_aload_n hx hb dX3_book_157 rfl (lv_at hl 0 rfl) ?_
                  refine va_get (D := g.1) (ci := 3) (v := .int (fi_L105 16)) (C := RX3) (T := TX3) (N := 30) hx hb hts in_X3 hown hK hP 0 rfl rfl 16 (by decide) (hts _ q1313) (fun _ h9 => h9) rfl dX3_book_158 ?_
                  refine zti (hq16_L105) ?_
                  refine lv_bipush (v := nI 120) hx hb dX3_book_161 (by decide) ?_
                  refine lv_icmp_ne (tgt := 170) hx hb dX3_book_163 (by decide) (fun c_163 => ?_) (fun c_163 => ?_)
                  · refine lv_iconst (v := nI 0) hx hb dX3_book_170 (by decide) ?_
                    exact jn_149 _ ((zB_f (fun z => c_163 z.2)).symm)
                  · refine lv_iconst (v := nI 1) hx hb dX3_book_166 (by decide) ?_
                    refine lv_goto (tgt := 171) hx hb dX3_book_167 (by decide) ?_
                    exact jn_149 _ ((zB_t ⟨c_154, c_163⟩).symm)
            · refine lv_iload_n hx hb dX3_book_117 rfl (lv_at hl 1 rfl) ?_
              refine zi_eq (tgt := 138) hx hb (by omega) dX3_book_118 (by decide) (fun c_118 => ?_) (fun c_118 => ?_)
              · refine lv_aload_n hx hb dX3_book_138 rfl (lv_at hl 0 rfl) ?_
                have hle_139 := hS.1
                refine va_callv (va_runV (As := []) (rest := []) ⟨hx, hb, hml, hown, hts⟩ (m_X3_readSort l g ad fi_L105 cn_L105 xl _ T n b0 (show PF T n b0 fi_L105 cn_L105 from ⟨hq13_L105, hq14_L105, hq15_L105, hq16_L105, hq17_L105, hq18_L105, hq20_L105, hq5_L105, hq12_L105, hq11_L105⟩) hO_L105 c_114) (cwV 0 hts (lw_V q1454 q1456 qs37 q69 q1457) rfl rfl rfl hdV_X3_readSort ⟨Nat.le_of_ble_eq_true rfl, Nat.le_of_ble_eq_true rfl⟩) (zpreV hK hN (va_recv hK hP (ci := 3) (q0 := 0) rfl rfl) ⟨rfl, hP, hD.weaken (fun _ _ _ _ => trivial)⟩) rfl rfl hl.1 rfl (lv_room (Nat.le_of_ble_eq_true rfl)) dX3_book_139 ⟨Nat.le_of_ble_eq_true rfl, Nat.le_of_ble_eq_true rfl⟩) hS (fun q _ h => mA_le hS.1 q h) (mA_le hS.1) (fun u t H locs ht hvm hw_139 hB hzz hkk hS => ?_)
                obtain ⟨hP, hD⟩ := hB
                rw [ht] at hP
                have hD := hD.weaken (fun _ _ _ h => mA_le hle_139 _ h)
                obtain ⟨fi_142, cn_142, xl_142⟩ := u
                obtain ⟨_, hPF_142, hO_142, hxl_142, hfr_142, hcr_142⟩ := hw_139
                have hxl_142 : xl = xl_142 := hxl_142.symm
                subst hxl_142
                have hPF_142 : PF T n (psrs T n b0) fi_142 cn_142 := hPF_142
                have hO_142 : PO T n (psrs T n b0) := hO_142
                have ho__142 := hO_142
                obtain ⟨ho1_142, _, _, ho4_142, ho16_142, hoF_142⟩ := ho__142
                have he13_142 := tkE_le (T := T) ho1_142
                have hk15_142 := tkK_le T n (psrs T n b0).1
                obtain ⟨hq13_142, hq14_142, hq15_142, hq16_142, hq17_142, hq18_142, hq20_142, hq5_142, hq12_142, hq11_142⟩ := hPF_142
                have hfr_142 : ∀ k, (k < 13 ∨ 20 < k ∨ k = 19) → fi_142 k = fi k := fun k hk => (hfr_142 k hk).trans (hfr_L105 k hk)
                have hcr_142 : ∀ k, k ≠ 5 → cn_142 k = cn k := fun k hk => (hcr_142 k hk).trans (hcr_L105 k hk)
                have hP : va_P g.1 zCL (mW g ad fi_142 cn_142 xl) _ := hP
                have hD : va_D (mA ad s.heap.size) (mW g ad fi_142 cn_142 xl) := hD
                refine lv_iinc (v := nI (k + 1)) (lv' := [(1, .int (nI (k + 1))), (0, .ref (ad 0))]) hx hb dX3_book_142 hl (k := 1) rfl (nI_add k 1) (by decide) rfl (fun ls hl => ?_)
                refine lv_goto (tgt := 105) hx hb dX3_book_145 (by decide) ?_
                exact ih_105 (by omega) _ _ _ _ _ ⟨_, _, _, rfl, rfl, hP, hD, hS, lv_sub hl [1, 0] rfl, ⟨hq13_142, hq14_142, hq15_142, hq16_142, hq17_142, hq18_142, hq20_142, hq5_142, hq12_142, hq11_142⟩, hO_142, hrem.trans (prem_s (by omega) c_114 (Or.inl c_118)), (fun k hk => (hfr_142 k hk)), (fun k hk => (hcr_142 k hk))⟩
              · refine lv_aload_n hx hb dX3_book_121 rfl (lv_at hl 0 rfl) ?_
                refine va_get (D := g.1) (ci := 3) (v := .int (fi_L105 15)) (C := RX3) (T := TX3) (N := 30) hx hb hts in_X3 hown hK hP 0 rfl rfl 15 (by decide) (hts _ q1312) (fun _ h9 => h9) rfl dX3_book_122 ?_
                refine zti (hq15_L105) ?_
                refine lv_iconst (v := nI 2) hx hb dX3_book_125 (by decide) ?_
                refine zc_ne (tgt := 138) hx hb (by omega) (by omega) dX3_book_126 (by decide) (fun c_126 => ?_) (fun c_126 => ?_)
                · refine lv_aload_n hx hb dX3_book_138 rfl (lv_at hl 0 rfl) ?_
                  have hle_139 := hS.1
                  refine va_callv (va_runV (As := []) (rest := []) ⟨hx, hb, hml, hown, hts⟩ (m_X3_readSort l g ad fi_L105 cn_L105 xl _ T n b0 (show PF T n b0 fi_L105 cn_L105 from ⟨hq13_L105, hq14_L105, hq15_L105, hq16_L105, hq17_L105, hq18_L105, hq20_L105, hq5_L105, hq12_L105, hq11_L105⟩) hO_L105 c_114) (cwV 0 hts (lw_V q1454 q1456 qs37 q69 q1457) rfl rfl rfl hdV_X3_readSort ⟨Nat.le_of_ble_eq_true rfl, Nat.le_of_ble_eq_true rfl⟩) (zpreV hK hN (va_recv hK hP (ci := 3) (q0 := 0) rfl rfl) ⟨rfl, hP, hD.weaken (fun _ _ _ _ => trivial)⟩) rfl rfl hl.1 rfl (lv_room (Nat.le_of_ble_eq_true rfl)) dX3_book_139 ⟨Nat.le_of_ble_eq_true rfl, Nat.le_of_ble_eq_true rfl⟩) hS (fun q _ h => mA_le hS.1 q h) (mA_le hS.1) (fun u t H locs ht hvm hw_139 hB hzz hkk hS => ?_)
                  obtain ⟨hP, hD⟩ := hB
                  rw [ht] at hP
                  have hD := hD.weaken (fun _ _ _ h => mA_le hle_139 _ h)
                  obtain ⟨fi_142, cn_142, xl_142⟩ := u
                  obtain ⟨_, hPF_142, hO_142, hxl_142, hfr_142, hcr_142⟩ := hw_139
                  have hxl_142 : xl = xl_142 := hxl_142.symm
                  subst hxl_142
                  have hPF_142 : PF T n (psrs T n b0) fi_142 cn_142 := hPF_142
                  have hO_142 : PO T n (psrs T n b0) := hO_142
                  have ho__142 := hO_142
                  obtain ⟨ho1_142, _, _, ho4_142, ho16_142, hoF_142⟩ := ho__142
                  have he13_142 := tkE_le (T := T) ho1_142
                  have hk15_142 := tkK_le T n (psrs T n b0).1
                  obtain ⟨hq13_142, hq14_142, hq15_142, hq16_142, hq17_142, hq18_142, hq20_142, hq5_142, hq12_142, hq11_142⟩ := hPF_142
                  have hfr_142 : ∀ k, (k < 13 ∨ 20 < k ∨ k = 19) → fi_142 k = fi k := fun k hk => (hfr_142 k hk).trans (hfr_L105 k hk)
                  have hcr_142 : ∀ k, k ≠ 5 → cn_142 k = cn k := fun k hk => (hcr_142 k hk).trans (hcr_L105 k hk)
                  have hP : va_P g.1 zCL (mW g ad fi_142 cn_142 xl) _ := hP
                  have hD : va_D (mA ad s.heap.size) (mW g ad fi_142 cn_142 xl) := hD
                  refine lv_iinc (v := nI (k + 1)) (lv' := [(1, .int (nI (k + 1))), (0, .ref (ad 0))]) hx hb dX3_book_142 hl (k := 1) rfl (nI_add k 1) (by decide) rfl (fun ls hl => ?_)
                  refine lv_goto (tgt := 105) hx hb dX3_book_145 (by decide) ?_
                  exact ih_105 (by omega) _ _ _ _ _ ⟨_, _, _, rfl, rfl, hP, hD, hS, lv_sub hl [1, 0] rfl, ⟨hq13_142, hq14_142, hq15_142, hq16_142, hq17_142, hq18_142, hq20_142, hq5_142, hq12_142, hq11_142⟩, hO_142, hrem.trans (prem_s (by omega) c_114 (Or.inr (fun z => c_126 z.1))), (fun k hk => (hfr_142 k hk)), (fun k hk => (hcr_142 k hk))⟩
                · refine lv_aload_n hx hb dX3_book_129 rfl (lv_at hl 0 rfl) ?_
                  refine va_get (D := g.1) (ci := 3) (v := .int (fi_L105 16)) (C := RX3) (T := TX3) (N := 30) hx hb hts in_X3 hown hK hP 0 rfl rfl 16 (by decide) (hts _ q1313) (fun _ h9 => h9) rfl dX3_book_130 ?_
                  refine zti (hq16_L105) ?_
                  refine lv_bipush (v := nI 120) hx hb dX3_book_133 (by decide) ?_
                  refine lv_icmp_eq (tgt := 148) hx hb dX3_book_135 (by decide) (fun c_135 => ?_) (fun c_135 => ?_)
                  · have hb1 : pbk1 T n = b0 := hrem.trans (prem_x (by omega) ⟨c_126, c_135⟩)
                    subst hb1
                    refine lv_aload_n hx hb dX3_book_148 rfl (lv_at hl 0 rfl) ?_
                    refine zjoin (ls := ls) (α := Int32) (fun v9 => v9 = zB (pisX T n 120 (pbk1 T n).1)) (fun v9 => .int v9 :: [.ref (ad 0)]) 171 (fun v9 hv => ?_) (fun jn_149 => ?_)
                    · subst hv
                      have hle_171 := hS.1
                      refine va_callv (va_runV (As := [.int (zB (pisX T n 120 (pbk1 T n).1))]) (rest := []) ⟨hx, hb, hml, hown, hts⟩ (m_X3_must l g ad fi_L105 cn_L105 xl _ T n (pbk1 T n) (show PF T n (pbk1 T n) fi_L105 cn_L105 from ⟨hq13_L105, hq14_L105, hq15_L105, hq16_L105, hq17_L105, hq18_L105, hq20_L105, hq5_L105, hq12_L105, hq11_L105⟩) hO_L105 (pisX T n 120 (pbk1 T n).1)) (cwV 1 hts (lw_V q1438 q1440 qs33 q69 q1441) rfl rfl rfl hdV_X3_must ⟨Nat.le_of_ble_eq_true rfl, Nat.le_of_ble_eq_true rfl⟩) (zpreV hK hN (va_recv hK hP (ci := 3) (q0 := 0) rfl rfl) ⟨rfl, hP, hD.weaken (fun _ _ _ _ => trivial)⟩) rfl rfl hl.1 rfl (lv_room (Nat.le_of_ble_eq_true rfl)) dX3_book_171 ⟨Nat.le_of_ble_eq_true rfl, Nat.le_of_ble_eq_true rfl⟩) hS (fun q _ h => mA_le hS.1 q h) (mA_le hS.1) (fun u t H locs ht hvm hw_171 hB hzz hkk hS => ?_)
                      obtain ⟨hP, hD⟩ := hB
                      rw [ht] at hP
                      have hD := hD.weaken (fun _ _ _ h => mA_le hle_171 _ h)
                      obtain ⟨fi_174, cn_174, xl_174⟩ := u
                      obtain ⟨_, hPF_174, hO_174, hxl_174, hfr_174, hcr_174⟩ := hw_171
                      have hxl_174 : xl = xl_174 := hxl_174.symm
                      subst hxl_174
                      have hPF_174 : PF T n (pmust T n (pisX T n 120 (pbk1 T n).1) (pbk1 T n)) fi_174 cn_174 := hPF_174
                      have hO_174 : PO T n (pmust T n (pisX T n 120 (pbk1 T n).1) (pbk1 T n)) := hO_174
                      have ho__174 := hO_174
                      obtain ⟨ho1_174, _, _, ho4_174, ho16_174, hoF_174⟩ := ho__174
                      have he13_174 := tkE_le (T := T) ho1_174
                      have hk15_174 := tkK_le T n (pmust T n (pisX T n 120 (pbk1 T n).1) (pbk1 T n)).1
                      obtain ⟨hq13_174, hq14_174, hq15_174, hq16_174, hq17_174, hq18_174, hq20_174, hq5_174, hq12_174, hq11_174⟩ := hPF_174
                      have hfr_174 : ∀ k, (k < 13 ∨ 20 < k ∨ k = 19) → fi_174 k = fi k := fun k hk => (hfr_174 k hk).trans (hfr_L105 k hk)
                      have hcr_174 : ∀ k, k ≠ 5 → cn_174 k = cn k := fun k hk => (hcr_174 k hk).trans (hcr_L105 k hk)
                      have hP : va_P g.1 zCL (mW g ad fi_174 cn_174 xl) _ := hP
                      have hD : va_D (mA ad s.heap.size) (mW g ad fi_174 cn_174 xl) := hD
                      refine lv_aload_n hx hb dX3_book_174 rfl (lv_at hl 0 rfl) ?_
                      refine va_get (D := g.1) (ci := 3) (v := .ref (ad 5)) (C := RX3) (T := TX3) (N := 30) hx hb hts in_X3 hown hK hP 0 rfl rfl 5 (by decide) (hts _ q1302) (fun _ h9 => h9) rfl dX3_book_175 ?_
                      refine lv_iconst (v := nI 3) hx hb dX3_book_178 (by decide) ?_
                      refine lv_aload_n hx hb dX3_book_179 rfl (lv_at hl 0 rfl) ?_
                      refine lv_iconst (v := nI 4) hx hb dX3_book_180 (by decide) ?_
                      refine lv_bipush (v := nI 8) hx hb dX3_book_181 (by decide) ?_
                      have hle_183 := hS.1
                      refine va_calli (va_runV (As := [.int (nI 4), .int (nI 8)]) (rest := [.int (nI 3), .ref (ad 5)]) ⟨hx, hb, hml, hown, hts⟩ (m_X3_readWord l g ad fi_174 cn_174 xl _ T n (pmust T n (pisX T n 120 (pbk1 T n).1) (pbk1 T n)) (show PF T n (pmust T n (pisX T n 120 (pbk1 T n).1) (pbk1 T n)) fi_174 cn_174 from ⟨hq13_174, hq14_174, hq15_174, hq16_174, hq17_174, hq18_174, hq20_174, hq5_174, hq12_174, hq11_174⟩) hO_174 4 8 (by omega) (by omega)) (cwV 2 hts (lw_V q1461 q1463 qs38 q69 q1464) rfl rfl rfl hdV_X3_readWord ⟨Nat.le_of_ble_eq_true rfl, Nat.le_of_ble_eq_true rfl⟩) (zpreV hK hN (va_recv hK hP (ci := 3) (q0 := 0) rfl rfl) ⟨rfl, hP, hD.weaken (fun _ _ _ _ => trivial)⟩) rfl rfl hl.1 rfl (lv_room (Nat.le_of_ble_eq_true rfl)) dX3_book_183 ⟨Nat.le_of_ble_eq_true rfl, Nat.le_of_ble_eq_true rfl⟩) hS (fun q _ h => mA_le hS.1 q h) (mA_le hS.1) (fun r_183 u t H locs ht hvm hw_183 hB hzz hkk hS => ?_)
                      obtain ⟨hP, hD⟩ := hB
                      rw [ht] at hP
                      have hD := hD.weaken (fun _ _ _ h => mA_le hle_183 _ h)
                      obtain ⟨fi_186, cn_186, xl_186⟩ := u
                      obtain ⟨rfl, hPF_186, hO_186, hxl_186, hfr_186, hcr_186⟩ := hw_183
                      have hxl_186 : xl = xl_186 := hxl_186.symm
                      subst hxl_186
                      have hPF_186 : PF T n (pwds T n 4 8 (pmust T n (pisX T n 120 (pbk1 T n).1) (pbk1 T n))) fi_186 cn_186 := hPF_186
                      have hO_186 : PO T n (pwds T n 4 8 (pmust T n (pisX T n 120 (pbk1 T n).1) (pbk1 T n))) := hO_186
                      have ho__186 := hO_186
                      obtain ⟨ho1_186, _, _, ho4_186, ho16_186, hoF_186⟩ := ho__186
                      have he13_186 := tkE_le (T := T) ho1_186
                      have hk15_186 := tkK_le T n (pwds T n 4 8 (pmust T n (pisX T n 120 (pbk1 T n).1) (pbk1 T n))).1
                      obtain ⟨hq13_186, hq14_186, hq15_186, hq16_186, hq17_186, hq18_186, hq20_186, hq5_186, hq12_186, hq11_186⟩ := hPF_186
                      have hfr_186 : ∀ k, (k < 13 ∨ 20 < k ∨ k = 19) → fi_186 k = fi k := fun k hk => (hfr_186 k hk).trans (hfr_174 k hk)
                      have hcr_186 : ∀ k, k ≠ 5 → cn_186 k = cn k := fun k hk => (hcr_186 k hk).trans (hcr_174 k hk)
                      have hP : va_P g.1 zCL (mW g ad fi_186 cn_186 xl) _ := hP
                      have hD : va_D (mA ad s.heap.size) (mW g ad fi_186 cn_186 xl) := hD
                      refine zast (f := cn_186 5) hx hb hK hP hD hS 5 0 rfl rfl (j := 3) (by omega) (by decide) dX3_book_186 (fun H locs hP hD hS => ?_)
                      rw [hq5_186] at hP hD
                      rw [nF_up] at hP hD
                      have hP : va_P g.1 zCL (mW g ad fi_186 (va_up cn_186 5 (nF (va_up ((pwds T n 4 8 (pmust T n (pisX T n 120 (pbk1 T n).1) (pbk1 T n))).2.2.2.2) 3 (pwdn T n 8 (pmust T n (pisX T n 120 (pbk1 T n).1) (pbk1 T n)))))) xl) _ := hP
                      have hD : va_D (mA ad s.heap.size) (mW g ad fi_186 (va_up cn_186 5 (nF (va_up ((pwds T n 4 8 (pmust T n (pisX T n 120 (pbk1 T n).1) (pbk1 T n))).2.2.2.2) 3 (pwdn T n 8 (pmust T n (pisX T n 120 (pbk1 T n).1) (pbk1 T n)))))) xl) := hD
                      have hO_k187 : PO T n (pwdm T n 4 8 3 (pmust T n (pisX T n 120 (pbk1 T n).1) (pbk1 T n))) := hO_186.set (Or.inl (by decide))
                      refine lv_aload_n hx hb dX3_book_187 rfl (lv_at hl 0 rfl) ?_
                      refine lv_bipush (v := nI 59) hx hb dX3_book_188 (by decide) ?_
                      have hle_190 := hS.1
                      refine va_callv (va_runV (As := [.int (nI 59)]) (rest := []) ⟨hx, hb, hml, hown, hts⟩ (m_X3_mustSign l g ad fi_186 (va_up cn_186 5 (nF (va_up ((pwds T n 4 8 (pmust T n (pisX T n 120 (pbk1 T n).1) (pbk1 T n))).2.2.2.2) 3 (pwdn T n 8 (pmust T n (pisX T n 120 (pbk1 T n).1) (pbk1 T n)))))) xl _ T n (pwdm T n 4 8 3 (pmust T n (pisX T n 120 (pbk1 T n).1) (pbk1 T n))) (show PF T n (pwdm T n 4 8 3 (pmust T n (pisX T n 120 (pbk1 T n).1) (pbk1 T n))) fi_186 (va_up cn_186 5 (nF (va_up ((pwds T n 4 8 (pmust T n (pisX T n 120 (pbk1 T n).1) (pbk1 T n))).2.2.2.2) 3 (pwdn T n 8 (pmust T n (pisX T n 120 (pbk1 T n).1) (pbk1 T n)))))) from ⟨hq13_186, hq14_186, hq15_186, hq16_186, hq17_186, hq18_186, hq20_186, rfl, hq12_186, hq11_186⟩) hO_k187 59 (by decide)) (cwV 1 hts (lw_V q1450 q1452 qs36 q69 q1453) rfl rfl rfl hdV_X3_mustSign ⟨Nat.le_of_ble_eq_true rfl, Nat.le_of_ble_eq_true rfl⟩) (zpreV hK hN (va_recv hK hP (ci := 3) (q0 := 0) rfl rfl) ⟨rfl, hP, hD.weaken (fun _ _ _ _ => trivial)⟩) rfl rfl hl.1 rfl (lv_room (Nat.le_of_ble_eq_true rfl)) dX3_book_190 ⟨Nat.le_of_ble_eq_true rfl, Nat.le_of_ble_eq_true rfl⟩) hS (fun q _ h => mA_le hS.1 q h) (mA_le hS.1) (fun u t H locs ht hvm hw_190 hB hzz hkk hS => ?_)
                      obtain ⟨hP, hD⟩ := hB
                      rw [ht] at hP
                      have hD := hD.weaken (fun _ _ _ h => mA_le hle_190 _ h)
                      obtain ⟨fi_193, cn_193, xl_193⟩ := u
                      obtain ⟨_, hPF_193, hO_193, hxl_193, hfr_193, hcr_193⟩ := hw_190
                      have hxl_193 : xl = xl_193 := hxl_193.symm
                      subst hxl_193
                      have hPF_193 : PF T n (psgn T n 59 (pwdm T n 4 8 3 (pmust T n (pisX T n 120 (pbk1 T n).1) (pbk1 T n)))) fi_193 cn_193 := hPF_193
                      have hO_193 : PO T n (psgn T n 59 (pwdm T n 4 8 3 (pmust T n (pisX T n 120 (pbk1 T n).1) (pbk1 T n)))) := hO_193
                      have ho__193 := hO_193
                      obtain ⟨ho1_193, _, _, ho4_193, ho16_193, hoF_193⟩ := ho__193
                      have he13_193 := tkE_le (T := T) ho1_193
                      have hk15_193 := tkK_le T n (psgn T n 59 (pwdm T n 4 8 3 (pmust T n (pisX T n 120 (pbk1 T n).1) (pbk1 T n)))).1
                      obtain ⟨hq13_193, hq14_193, hq15_193, hq16_193, hq17_193, hq18_193, hq20_193, hq5_193, hq12_193, hq11_193⟩ := hPF_193
                      have hfr_193 : ∀ k, (k < 13 ∨ 20 < k ∨ k = 19) → fi_193 k = fi k := fun k hk => (hfr_193 k hk).trans (hfr_186 k hk)
                      have hcr_193 : ∀ k, k ≠ 5 → cn_193 k = cn k := fun k hk => (hcr_193 k hk).trans ((va_up_ne _ _ hk).trans (hcr_186 k hk))
                      have hP : va_P g.1 zCL (mW g ad fi_193 cn_193 xl) _ := hP
                      have hD : va_D (mA ad s.heap.size) (mW g ad fi_193 cn_193 xl) := hD
                      have hPF_R193 : PF T n (pbk2 T n) fi_193 cn_193 := ⟨hq13_193, hq14_193, hq15_193, hq16_193, hq17_193, hq18_193, hq20_193, hq5_193, hq12_193, hq11_193⟩
                      have hO_R193 : PO T n (pbk2 T n) := hO_193
                      have ho__R193 := hO_R193
                      obtain ⟨ho1_R193, _, _, ho4_R193, ho16_R193, hoF_R193⟩ := ho__R193
                      have he13_R193 := tkE_le (T := T) ho1_R193
                      have hk15_R193 := tkK_le T n (pbk2 T n).1
                      obtain ⟨hq13_R193, hq14_R193, hq15_R193, hq16_R193, hq17_R193, hq18_R193, hq20_R193, hq5_R193, hq12_R193, hq11_R193⟩ := hPF_R193
                      have hfr_R193 := hfr_193
                      have hcr_R193 := hcr_193
                      refine lv_aload_n hx hb dX3_book_193 rfl (lv_at hl 0 rfl) ?_
                      refine va_get (D := g.1) (ci := 3) (v := .int (fi_193 17)) (C := RX3) (T := TX3) (N := 30) hx hb hts in_X3 hown hK hP 0 rfl rfl 17 (by decide) (hts _ q1314) (fun _ h9 => h9) rfl dX3_book_194 ?_
                      refine zti (hq17_R193) ?_
                      refine zi_ne (tgt := 213) hx hb (by omega) dX3_book_197 (by decide) (fun c_197 => ?_) (fun c_197 => ?_)
                      · have hPF_R213 : PF T n (pbk3 T n) fi_193 cn_193 := (by rw [show pbk3 T n = pbk2 T n from zif_same (pbad_id c_197)]; exact ⟨hq13_R193, hq14_R193, hq15_R193, hq16_R193, hq17_R193, hq18_R193, hq20_R193, hq5_R193, hq12_R193, hq11_R193⟩)
                        have hO_R213 : PO T n (pbk3 T n) := (by rw [show pbk3 T n = pbk2 T n from zif_same (pbad_id c_197)]; exact hO_R193)
                        have ho__R213 := hO_R213
                        obtain ⟨ho1_R213, _, _, ho4_R213, ho16_R213, hoF_R213⟩ := ho__R213
                        have he13_R213 := tkE_le (T := T) ho1_R213
                        have hk15_R213 := tkK_le T n (pbk3 T n).1
                        obtain ⟨hq13_R213, hq14_R213, hq15_R213, hq16_R213, hq17_R213, hq18_R213, hq20_R213, hq5_R213, hq12_R213, hq11_R213⟩ := hPF_R213
                        have hfr_R213 := hfr_R193
                        have hcr_R213 := hcr_R193
                        refine lv_aload_n hx hb dX3_book_213 rfl (lv_at hl 0 rfl) ?_
                        refine va_get (D := g.1) (ci := 3) (v := .int (fi_193 17)) (C := RX3) (T := TX3) (N := 30) hx hb hts in_X3 hown hK hP 0 rfl rfl 17 (by decide) (hts _ q1314) (fun _ h9 => h9) rfl dX3_book_214 ?_
                        refine zti (hq17_R213) ?_
                        refine zi_ne (tgt := 239) hx hb (by omega) dX3_book_217 (by decide) (fun c_217 => ?_) (fun c_217 => ?_)
                        · have hPF_R239 : PF T n (pbk T n) fi_193 cn_193 := (by rw [show pbk T n = pbk3 T n from zif_same (pbad_id c_217)]; exact ⟨hq13_R213, hq14_R213, hq15_R213, hq16_R213, hq17_R213, hq18_R213, hq20_R213, hq5_R213, hq12_R213, hq11_R213⟩)
                          have hO_R239 : PO T n (pbk T n) := (by rw [show pbk T n = pbk3 T n from zif_same (pbad_id c_217)]; exact hO_R213)
                          have ho__R239 := hO_R239
                          obtain ⟨ho1_R239, _, _, ho4_R239, ho16_R239, hoF_R239⟩ := ho__R239
                          have he13_R239 := tkE_le (T := T) ho1_R239
                          have hk15_R239 := tkK_le T n (pbk T n).1
                          obtain ⟨hq13_R239, hq14_R239, hq15_R239, hq16_R239, hq17_R239, hq18_R239, hq20_R239, hq5_R239, hq12_R239, hq11_R239⟩ := hPF_R239
                          have hfr_R239 := hfr_R213
                          have hcr_R239 := hcr_R213
                          refine lv_aload_n hx hb dX3_book_239 rfl (lv_at hl 0 rfl) ?_
                          refine lv_iconst (v := nI 0) hx hb dX3_book_240 (by decide) ?_
                          refine va_put (D := g.1) (ci := 3) (v := .int (nI 0)) (ty := .int) (C := RX3) (T := TX3) (N := 30) hx hb hts in_X3 tyX3 tyX3_ok nmX3 hown hK hP hD hS 0 rfl rfl 12 (by decide) (hts _ q1309) (fun _ h9 => h9) rfl (by decide +kernel) rfl rfl (Nat.le_of_ble_eq_true rfl) dX3_book_241 (fun H locs hP hD hS => ?_)
                          have hP : va_P g.1 zCL (mW g ad (va_up fi_193 12 (nI 0)) cn_193 xl) _ := hP
                          have hD : va_D (mA ad s.heap.size) (mW g ad (va_up fi_193 12 (nI 0)) cn_193 xl) := hD
                          refine lv_aload_n hx hb dX3_book_244 rfl (lv_at hl 0 rfl) ?_
                          refine va_get (D := g.1) (ci := 3) (v := .int (fi_193 17)) (C := RX3) (T := TX3) (N := 30) hx hb hts in_X3 hown hK hP 0 rfl rfl 17 (by decide) (hts _ q1314) (fun _ h9 => h9) rfl dX3_book_245 ?_
                          refine zti (hq17_R239) ?_
                          refine zi_le (tgt := 267) hx hb (by omega) dX3_book_248 (by decide) (fun c_248 => ?_) (fun c_248 => ?_)
                          · refine lv_aload_n hx hb dX3_book_267 rfl (lv_at hl 0 rfl) ?_
                            refine lv_iconst (v := nI 0) hx hb dX3_book_268 (by decide) ?_
                            refine va_put (D := g.1) (ci := 3) (v := .int (nI 0)) (ty := .int) (C := RX3) (T := TX3) (N := 30) hx hb hts in_X3 tyX3 tyX3_ok nmX3 hown hK hP hD hS 0 rfl rfl 8 (by decide) (hts _ q1305) (fun _ h9 => h9) rfl (by decide +kernel) rfl rfl (Nat.le_of_ble_eq_true rfl) dX3_book_269 (fun H locs hP hD hS => ?_)
                            have hP : va_P g.1 zCL (mW g ad (va_up (va_up fi_193 8 (nI 0)) 12 (nI 0)) cn_193 xl) _ := hP
                            have hD : va_D (mA ad s.heap.size) (mW g ad (va_up (va_up fi_193 8 (nI 0)) 12 (nI 0)) cn_193 xl) := hD
                            refine lv_iconst (v := nI 0) hx hb dX3_book_272 (by decide) ?_
                            refine lv_istore_n (lv' := [(1, .int (nI 0)), (0, .ref (ad 0))]) hx hb dX3_book_273 rfl hl (by decide) rfl (fun ls hl => ?_)
                            refine zloopW (head := 274) (44) (fun k H locs cells slots ls => cells = 0 ∧ slots = 0 ∧ va_P g.1 zCL (mW g ad (va_up (va_up fi_193 8 (nI 0)) 12 (nI 0)) (va_up cn_193 4 (nF (va_cpy (pbk T n).2.2.2.2 (S.2.1 4) 0 0 k))) xl) H ∧ va_D (mA ad s.heap.size) (mW g ad (va_up (va_up fi_193 8 (nI 0)) 12 (nI 0)) (va_up cn_193 4 (nF (va_cpy (pbk T n).2.2.2.2 (S.2.1 4) 0 0 k))) xl) ∧ va_S (mA ad s.heap.size) s.heap H locs ∧ lv_has ls 2 [(0, .ref (ad 0)), (1, .int (nI k))]) (fun k hv_k ih_274 H locs cells slots ls hI => ?_) 0 (Nat.zero_le _) ?_
                            · obtain ⟨rfl, rfl, hP, hD, hS, hl⟩ := hI
                              refine lv_iload_n hx hb dX3_book_274 rfl (lv_at hl 1 rfl) ?_
                              refine lv_bipush (v := nI 44) hx hb dX3_book_275 (by decide) ?_
                              refine zc_ge (tgt := 298) hx hb (by omega) (by omega) dX3_book_277 (by decide) (fun c_277 => ?_) (fun c_277 => ?_)
                              · obtain rfl : 44 = k := by omega
                                obtain ⟨hP, hD⟩ := hP.exi hD 4 (f' := nF (pbk T n).2.2.2.2) rfl (fun j hj => by show nI (va_cpy _ _ 0 0 44 j) = nI ((pbk T n).2.2.2.2 j); rw [zcpy_in (by omega) (by omega)]; rw [Nat.zero_add, Nat.sub_zero])
                                have hP : va_P g.1 zCL (mW g ad (va_up (va_up fi_193 8 (nI 0)) 12 (nI 0)) (va_up cn_193 4 (nF (pbk T n).2.2.2.2)) xl) _ := hP
                                have hD : va_D (mA ad s.heap.size) (mW g ad (va_up (va_up fi_193 8 (nI 0)) 12 (nI 0)) (va_up cn_193 4 (nF (pbk T n).2.2.2.2)) xl) := hD
                                refine lv_aload_n hx hb dX3_book_298 rfl (lv_at hl 0 rfl) ?_
                                refine va_get (D := g.1) (ci := 3) (v := .ref (ad 4)) (C := RX3) (T := TX3) (N := 30) hx hb hts in_X3 hown hK hP 0 rfl rfl 4 (by decide) (hts _ q1301) (fun _ h9 => h9) rfl dX3_book_299 ?_
                                refine lv_iconst (v := nI 0) hx hb dX3_book_302 (by decide) ?_
                                refine zald hx hb hK hP 4 0 rfl rfl (j := 0) (by omega) (by decide) dX3_book_303 ?_
                                refine zti (show (nF ((pbk T n).2.2.2.2)) 0 = nI (((pbk T n).2.2.2.2) 0) from rfl) ?_
                                exact W.iret (v := nI (((pbk T n).2.2.2.2) 0)) hx hb hr (fun t ht hW => ⟨⟨nI (((pbk T n).2.2.2.2) 0), (va_up (va_up fi_193 8 (nI 0)) 12 (nI 0), va_up cn_193 4 (nF (pbk T n).2.2.2.2), xl), rfl, (by unfold opBook; rw [hT11, hn12, zif_f c_248]; exact ⟨rfl, ⟨((hfr_R239 0 (by decide)).trans hf0), rfl, rfl, ((hfr_R239 19 (by decide)).trans hf19), ((hfr_R239 29 (by decide)).trans hf29), ((hcr_R239 1 (by decide)).trans hc1), ((hcr_R239 2 (by decide)).trans hc2), ((hcr_R239 3 (by decide)).trans hc3), rfl, ((hcr_R239 7 (by decide)).trans hc7), ((hcr_R239 11 (by decide)).trans hc11), ((hcr_R239 26 (by decide)).trans hc26), ((hcr_R239 27 (by decide)).trans hc27), ((hcr_R239 28 (by decide)).trans hc28)⟩, ⟨_, _, _, _, _, _, _, _, _, hq5_R239, ((hcr_R239 6 (by decide)).trans hc6), ((hcr_R239 9 (by decide)).trans hc9), ((hcr_R239 10 (by decide)).trans hc10), ((hcr_R239 24 (by decide)).trans hc24), ((hcr_R239 25 (by decide)).trans hc25), hc21, hc22, ((hfr_R239 23 (by decide)).trans hf23)⟩⟩), by rw [ht]; exact hP, hD⟩, hS.F ht⟩) hS.2.2 dX3_book_304
                              · refine lv_aload_n hx hb dX3_book_280 rfl (lv_at hl 0 rfl) ?_
                                refine va_get (D := g.1) (ci := 3) (v := .ref (ad 4)) (C := RX3) (T := TX3) (N := 30) hx hb hts in_X3 hown hK hP 0 rfl rfl 4 (by decide) (hts _ q1301) (fun _ h9 => h9) rfl dX3_book_281 ?_
                                refine lv_iload_n hx hb dX3_book_284 rfl (lv_at hl 1 rfl) ?_
                                refine lv_aload_n hx hb dX3_book_285 rfl (lv_at hl 0 rfl) ?_
                                refine va_get (D := g.1) (ci := 3) (v := .ref (ad 5)) (C := RX3) (T := TX3) (N := 30) hx hb hts in_X3 hown hK hP 0 rfl rfl 5 (by decide) (hts _ q1302) (fun _ h9 => h9) rfl dX3_book_286 ?_
                                refine lv_iload_n hx hb dX3_book_289 rfl (lv_at hl 1 rfl) ?_
                                refine zald hx hb hK hP 5 0 rfl rfl (j := k) (by omega) (by decide) dX3_book_290 ?_
                                refine zti (congrFun hq5_R239 _) ?_
                                refine zti (show (nF ((pbk T n).2.2.2.2)) k = nI (((pbk T n).2.2.2.2) k) from rfl) ?_
                                refine zast (f := nF (va_cpy (pbk T n).2.2.2.2 (S.2.1 4) 0 0 k)) hx hb hK hP hD hS 4 0 rfl rfl (j := k) (by omega) (by decide) dX3_book_291 (fun H locs hP hD hS => ?_)
                                rw [nF_up] at hP hD
                                have hP : va_P g.1 zCL (mW g ad (va_up (va_up fi_193 8 (nI 0)) 12 (nI 0)) (va_up cn_193 4 (nF (va_up (va_cpy (pbk T n).2.2.2.2 (S.2.1 4) 0 0 k) k (((pbk T n).2.2.2.2) k)))) xl) _ := hP
                                have hD : va_D (mA ad s.heap.size) (mW g ad (va_up (va_up fi_193 8 (nI 0)) 12 (nI 0)) (va_up cn_193 4 (nF (va_up (va_cpy (pbk T n).2.2.2.2 (S.2.1 4) 0 0 k) k (((pbk T n).2.2.2.2) k)))) xl) := hD
                                refine lv_iinc (v := nI (k + 1)) (lv' := [(1, .int (nI (k + 1))), (0, .ref (ad 0))]) hx hb dX3_book_292 hl (k := 1) rfl (nI_add k 1) (by decide) rfl (fun ls hl => ?_)
                                refine lv_goto (tgt := 274) hx hb dX3_book_295 (by decide) ?_
                                rw [show va_up (va_cpy (pbk T n).2.2.2.2 (S.2.1 4) 0 0 k) k ((pbk T n).2.2.2.2 k) = va_cpy (pbk T n).2.2.2.2 (S.2.1 4) 0 0 (k + 1) by have h9 := zcpy_s (pbk T n).2.2.2.2 (S.2.1 4) 0 0 k; rw [Nat.zero_add] at h9; exact h9] at hP hD
                                exact ih_274 (by omega) _ _ _ _ _ ⟨rfl, rfl, hP, hD, hS, lv_sub hl [1, 0] rfl⟩
                            · rw [mW_up (cn := cn_193) (k := 4) (f := nF (va_cpy (pbk T n).2.2.2.2 (S.2.1 4) 0 0 0)) (by rw [zcpy_0]; exact (hcr_R239 4 (by decide)).trans hc4)] at hP
                              rw [mW_up (cn := cn_193) (k := 4) (f := nF (va_cpy (pbk T n).2.2.2.2 (S.2.1 4) 0 0 0)) (by rw [zcpy_0]; exact (hcr_R239 4 (by decide)).trans hc4)] at hD
                              have hP : va_P g.1 zCL (mW g ad (va_up (va_up fi_193 8 (nI 0)) 12 (nI 0)) (va_up cn_193 4 (nF (va_cpy (pbk T n).2.2.2.2 (S.2.1 4) 0 0 0))) xl) _ := hP
                              have hD : va_D (mA ad s.heap.size) (mW g ad (va_up (va_up fi_193 8 (nI 0)) 12 (nI 0)) (va_up cn_193 4 (nF (va_cpy (pbk T n).2.2.2.2 (S.2.1 4) 0 0 0))) xl) := hD
                              exact ⟨rfl, rfl, hP, hD, hS, lv_sub hl [1, 0] rfl⟩
                          · refine lv_aload_n hx hb dX3_book_251 rfl (lv_at hl 0 rfl) ?_
                            refine lv_aload_n hx hb dX3_book_252 rfl (lv_at hl 0 rfl) ?_
                            refine va_get (D := g.1) (ci := 3) (v := .int (fi_193 17)) (C := RX3) (T := TX3) (N := 30) hx hb hts in_X3 hown hK hP 0 rfl rfl 17 (by decide) (hts _ q1314) (fun _ h9 => h9) rfl dX3_book_253 ?_
                            refine zti (hq17_R239) ?_
                            refine va_put (D := g.1) (ci := 3) (v := .int (nI ((pbk T n).2.1))) (ty := .int) (C := RX3) (T := TX3) (N := 30) hx hb hts in_X3 tyX3 tyX3_ok nmX3 hown hK hP hD hS 0 rfl rfl 19 (by decide) (hts _ q1316) (fun _ h9 => h9) rfl (by decide +kernel) rfl rfl (Nat.le_of_ble_eq_true rfl) dX3_book_256 (fun H locs hP hD hS => ?_)
                            have hP : va_P g.1 zCL (mW g ad (va_up (va_up fi_193 12 (nI 0)) 19 (nI ((pbk T n).2.1))) cn_193 xl) _ := hP
                            have hD : va_D (mA ad s.heap.size) (mW g ad (va_up (va_up fi_193 12 (nI 0)) 19 (nI ((pbk T n).2.1))) cn_193 xl) := hD
                            refine lv_ldc hx hb hown (hts _ q1466) dX3_book_259 ?_
                            refine lv_aload_n hx hb dX3_book_261 rfl (lv_at hl 0 rfl) ?_
                            refine va_get (D := g.1) (ci := 3) (v := .int (fi_193 18)) (C := RX3) (T := TX3) (N := 30) hx hb hts in_X3 hown hK hP 0 rfl rfl 18 (by decide) (hts _ q1315) (fun _ h9 => h9) rfl dX3_book_262 ?_
                            refine lv_isub hx hb dX3_book_265 ?_
                            exact W.iret (v := (-1000100) - (fi_193 18)) hx hb hr (fun t ht hW => ⟨⟨(-1000100) - (fi_193 18), (va_up (va_up fi_193 12 (nI 0)) 19 (nI ((pbk T n).2.1)), cn_193, xl), rfl, (by unfold opBook; rw [hT11, hn12, zif_t c_248]; exact ⟨(congrArg (fun z => -1000100 - z) (hq18_R239 c_248)), ⟨((hfr_R239 0 (by decide)).trans hf0), ((hfr_R239 8 (by decide)).trans hf8), rfl, rfl, ((hfr_R239 29 (by decide)).trans hf29), ((hcr_R239 1 (by decide)).trans hc1), ((hcr_R239 2 (by decide)).trans hc2), ((hcr_R239 3 (by decide)).trans hc3), ((hcr_R239 4 (by decide)).trans hc4), ((hcr_R239 7 (by decide)).trans hc7), ((hcr_R239 11 (by decide)).trans hc11), ((hcr_R239 26 (by decide)).trans hc26), ((hcr_R239 27 (by decide)).trans hc27), ((hcr_R239 28 (by decide)).trans hc28)⟩, ⟨_, _, _, _, _, _, _, _, _, hq5_R239, ((hcr_R239 6 (by decide)).trans hc6), ((hcr_R239 9 (by decide)).trans hc9), ((hcr_R239 10 (by decide)).trans hc10), ((hcr_R239 24 (by decide)).trans hc24), ((hcr_R239 25 (by decide)).trans hc25), hc21, hc22, ((hfr_R239 23 (by decide)).trans hf23)⟩⟩), by rw [ht]; exact hP, hD⟩, hS.F ht⟩) hS.2.2 dX3_book_266
                        · refine lv_aload_n hx hb dX3_book_220 rfl (lv_at hl 0 rfl) ?_
                          refine va_get (D := g.1) (ci := 3) (v := .int (fi_193 20)) (C := RX3) (T := TX3) (N := 30) hx hb hts in_X3 hown hK hP 0 rfl rfl 20 (by decide) (hts _ q1317) (fun _ h9 => h9) rfl dX3_book_221 ?_
                          refine zti (hq20_R213) ?_
                          refine lv_aload_n hx hb dX3_book_224 rfl (lv_at hl 0 rfl) ?_
                          refine va_get (D := g.1) (ci := 3) (v := .ref (ad 5)) (C := RX3) (T := TX3) (N := 30) hx hb hts in_X3 hown hK hP 0 rfl rfl 5 (by decide) (hts _ q1302) (fun _ h9 => h9) rfl dX3_book_225 ?_
                          refine lv_iconst (v := nI 0) hx hb dX3_book_228 (by decide) ?_
                          refine zald hx hb hK hP 5 0 rfl rfl (j := 0) (by omega) (by decide) dX3_book_229 ?_
                          refine zti (congrFun hq5_R213 _) ?_
                          refine zti (show (nF ((pbk3 T n).2.2.2.2)) 0 = nI (((pbk3 T n).2.2.2.2) 0) from rfl) ?_
                          refine lv_ishr hx hb dX3_book_230 ?_
                          refine zti (show _ = nI ((pbk3 T n).2.2.2.1 / 2 ^ (pbk3 T n).2.2.2.2 0) from (zshr (by omega) (by omega))) ?_
                          have hdl : (pbk3 T n).2.2.2.1 / 2 ^ (pbk3 T n).2.2.2.2 0 ≤ (pbk3 T n).2.2.2.1 := Nat.div_le_self _ _
                          refine zi_eq (tgt := 239) hx hb (by omega) dX3_book_231 (by decide) (fun c_231 => ?_) (fun c_231 => ?_)
                          · have hPF_R239 : PF T n (pbk T n) fi_193 cn_193 := (by rw [show pbk T n = pbk3 T n from zif_t c_231]; exact ⟨hq13_R213, hq14_R213, hq15_R213, hq16_R213, hq17_R213, hq18_R213, hq20_R213, hq5_R213, hq12_R213, hq11_R213⟩)
                            have hO_R239 : PO T n (pbk T n) := (by rw [show pbk T n = pbk3 T n from zif_t c_231]; exact hO_R213)
                            have ho__R239 := hO_R239
                            obtain ⟨ho1_R239, _, _, ho4_R239, ho16_R239, hoF_R239⟩ := ho__R239
                            have he13_R239 := tkE_le (T := T) ho1_R239
                            have hk15_R239 := tkK_le T n (pbk T n).1
                            obtain ⟨hq13_R239, hq14_R239, hq15_R239, hq16_R239, hq17_R239, hq18_R239, hq20_R239, hq5_R239, hq12_R239, hq11_R239⟩ := hPF_R239
                            have hfr_R239 := hfr_R213
                            have hcr_R239 := hcr_R213
                            refine lv_aload_n hx hb dX3_book_239 rfl (lv_at hl 0 rfl) ?_
                            refine lv_iconst (v := nI 0) hx hb dX3_book_240 (by decide) ?_
                            refine va_put (D := g.1) (ci := 3) (v := .int (nI 0)) (ty := .int) (C := RX3) (T := TX3) (N := 30) hx hb hts in_X3 tyX3 tyX3_ok nmX3 hown hK hP hD hS 0 rfl rfl 12 (by decide) (hts _ q1309) (fun _ h9 => h9) rfl (by decide +kernel) rfl rfl (Nat.le_of_ble_eq_true rfl) dX3_book_241 (fun H locs hP hD hS => ?_)
                            have hP : va_P g.1 zCL (mW g ad (va_up fi_193 12 (nI 0)) cn_193 xl) _ := hP
                            have hD : va_D (mA ad s.heap.size) (mW g ad (va_up fi_193 12 (nI 0)) cn_193 xl) := hD
                            refine lv_aload_n hx hb dX3_book_244 rfl (lv_at hl 0 rfl) ?_
                            refine va_get (D := g.1) (ci := 3) (v := .int (fi_193 17)) (C := RX3) (T := TX3) (N := 30) hx hb hts in_X3 hown hK hP 0 rfl rfl 17 (by decide) (hts _ q1314) (fun _ h9 => h9) rfl dX3_book_245 ?_
                            refine zti (hq17_R239) ?_
                            refine zi_le (tgt := 267) hx hb (by omega) dX3_book_248 (by decide) (fun c_248 => ?_) (fun c_248 => ?_)
                            · refine lv_aload_n hx hb dX3_book_267 rfl (lv_at hl 0 rfl) ?_
                              refine lv_iconst (v := nI 0) hx hb dX3_book_268 (by decide) ?_
                              refine va_put (D := g.1) (ci := 3) (v := .int (nI 0)) (ty := .int) (C := RX3) (T := TX3) (N := 30) hx hb hts in_X3 tyX3 tyX3_ok nmX3 hown hK hP hD hS 0 rfl rfl 8 (by decide) (hts _ q1305) (fun _ h9 => h9) rfl (by decide +kernel) rfl rfl (Nat.le_of_ble_eq_true rfl) dX3_book_269 (fun H locs hP hD hS => ?_)
                              have hP : va_P g.1 zCL (mW g ad (va_up (va_up fi_193 8 (nI 0)) 12 (nI 0)) cn_193 xl) _ := hP
                              have hD : va_D (mA ad s.heap.size) (mW g ad (va_up (va_up fi_193 8 (nI 0)) 12 (nI 0)) cn_193 xl) := hD
                              refine lv_iconst (v := nI 0) hx hb dX3_book_272 (by decide) ?_
                              refine lv_istore_n (lv' := [(1, .int (nI 0)), (0, .ref (ad 0))]) hx hb dX3_book_273 rfl hl (by decide) rfl (fun ls hl => ?_)
                              refine zloopW (head := 274) (44) (fun k H locs cells slots ls => cells = 0 ∧ slots = 0 ∧ va_P g.1 zCL (mW g ad (va_up (va_up fi_193 8 (nI 0)) 12 (nI 0)) (va_up cn_193 4 (nF (va_cpy (pbk T n).2.2.2.2 (S.2.1 4) 0 0 k))) xl) H ∧ va_D (mA ad s.heap.size) (mW g ad (va_up (va_up fi_193 8 (nI 0)) 12 (nI 0)) (va_up cn_193 4 (nF (va_cpy (pbk T n).2.2.2.2 (S.2.1 4) 0 0 k))) xl) ∧ va_S (mA ad s.heap.size) s.heap H locs ∧ lv_has ls 2 [(0, .ref (ad 0)), (1, .int (nI k))]) (fun k hv_k ih_274 H locs cells slots ls hI => ?_) 0 (Nat.zero_le _) ?_
                              · obtain ⟨rfl, rfl, hP, hD, hS, hl⟩ := hI
                                refine lv_iload_n hx hb dX3_book_274 rfl (lv_at hl 1 rfl) ?_
                                refine lv_bipush (v := nI 44) hx hb dX3_book_275 (by decide) ?_
                                refine zc_ge (tgt := 298) hx hb (by omega) (by omega) dX3_book_277 (by decide) (fun c_277 => ?_) (fun c_277 => ?_)
                                · obtain rfl : 44 = k := by omega
                                  obtain ⟨hP, hD⟩ := hP.exi hD 4 (f' := nF (pbk T n).2.2.2.2) rfl (fun j hj => by show nI (va_cpy _ _ 0 0 44 j) = nI ((pbk T n).2.2.2.2 j); rw [zcpy_in (by omega) (by omega)]; rw [Nat.zero_add, Nat.sub_zero])
                                  have hP : va_P g.1 zCL (mW g ad (va_up (va_up fi_193 8 (nI 0)) 12 (nI 0)) (va_up cn_193 4 (nF (pbk T n).2.2.2.2)) xl) _ := hP
                                  have hD : va_D (mA ad s.heap.size) (mW g ad (va_up (va_up fi_193 8 (nI 0)) 12 (nI 0)) (va_up cn_193 4 (nF (pbk T n).2.2.2.2)) xl) := hD
                                  refine lv_aload_n hx hb dX3_book_298 rfl (lv_at hl 0 rfl) ?_
                                  refine va_get (D := g.1) (ci := 3) (v := .ref (ad 4)) (C := RX3) (T := TX3) (N := 30) hx hb hts in_X3 hown hK hP 0 rfl rfl 4 (by decide) (hts _ q1301) (fun _ h9 => h9) rfl dX3_book_299 ?_
                                  refine lv_iconst (v := nI 0) hx hb dX3_book_302 (by decide) ?_
                                  refine zald hx hb hK hP 4 0 rfl rfl (j := 0) (by omega) (by decide) dX3_book_303 ?_
                                  refine zti (show (nF ((pbk T n).2.2.2.2)) 0 = nI (((pbk T n).2.2.2.2) 0) from rfl) ?_
                                  exact W.iret (v := nI (((pbk T n).2.2.2.2) 0)) hx hb hr (fun t ht hW => ⟨⟨nI (((pbk T n).2.2.2.2) 0), (va_up (va_up fi_193 8 (nI 0)) 12 (nI 0), va_up cn_193 4 (nF (pbk T n).2.2.2.2), xl), rfl, (by unfold opBook; rw [hT11, hn12, zif_f c_248]; exact ⟨rfl, ⟨((hfr_R239 0 (by decide)).trans hf0), rfl, rfl, ((hfr_R239 19 (by decide)).trans hf19), ((hfr_R239 29 (by decide)).trans hf29), ((hcr_R239 1 (by decide)).trans hc1), ((hcr_R239 2 (by decide)).trans hc2), ((hcr_R239 3 (by decide)).trans hc3), rfl, ((hcr_R239 7 (by decide)).trans hc7), ((hcr_R239 11 (by decide)).trans hc11), ((hcr_R239 26 (by decide)).trans hc26), ((hcr_R239 27 (by decide)).trans hc27), ((hcr_R239 28 (by decide)).trans hc28)⟩, ⟨_, _, _, _, _, _, _, _, _, hq5_R239, ((hcr_R239 6 (by decide)).trans hc6), ((hcr_R239 9 (by decide)).trans hc9), ((hcr_R239 10 (by decide)).trans hc10), ((hcr_R239 24 (by decide)).trans hc24), ((hcr_R239 25 (by decide)).trans hc25), hc21, hc22, ((hfr_R239 23 (by decide)).trans hf23)⟩⟩), by rw [ht]; exact hP, hD⟩, hS.F ht⟩) hS.2.2 dX3_book_304
                                · refine lv_aload_n hx hb dX3_book_280 rfl (lv_at hl 0 rfl) ?_
                                  refine va_get (D := g.1) (ci := 3) (v := .ref (ad 4)) (C := RX3) (T := TX3) (N := 30) hx hb hts in_X3 hown hK hP 0 rfl rfl 4 (by decide) (hts _ q1301) (fun _ h9 => h9) rfl dX3_book_281 ?_
                                  refine lv_iload_n hx hb dX3_book_284 rfl (lv_at hl 1 rfl) ?_
                                  refine lv_aload_n hx hb dX3_book_285 rfl (lv_at hl 0 rfl) ?_
                                  refine va_get (D := g.1) (ci := 3) (v := .ref (ad 5)) (C := RX3) (T := TX3) (N := 30) hx hb hts in_X3 hown hK hP 0 rfl rfl 5 (by decide) (hts _ q1302) (fun _ h9 => h9) rfl dX3_book_286 ?_
                                  refine lv_iload_n hx hb dX3_book_289 rfl (lv_at hl 1 rfl) ?_
                                  refine zald hx hb hK hP 5 0 rfl rfl (j := k) (by omega) (by decide) dX3_book_290 ?_
                                  refine zti (congrFun hq5_R239 _) ?_
                                  refine zti (show (nF ((pbk T n).2.2.2.2)) k = nI (((pbk T n).2.2.2.2) k) from rfl) ?_
                                  refine zast (f := nF (va_cpy (pbk T n).2.2.2.2 (S.2.1 4) 0 0 k)) hx hb hK hP hD hS 4 0 rfl rfl (j := k) (by omega) (by decide) dX3_book_291 (fun H locs hP hD hS => ?_)
                                  rw [nF_up] at hP hD
                                  have hP : va_P g.1 zCL (mW g ad (va_up (va_up fi_193 8 (nI 0)) 12 (nI 0)) (va_up cn_193 4 (nF (va_up (va_cpy (pbk T n).2.2.2.2 (S.2.1 4) 0 0 k) k (((pbk T n).2.2.2.2) k)))) xl) _ := hP
                                  have hD : va_D (mA ad s.heap.size) (mW g ad (va_up (va_up fi_193 8 (nI 0)) 12 (nI 0)) (va_up cn_193 4 (nF (va_up (va_cpy (pbk T n).2.2.2.2 (S.2.1 4) 0 0 k) k (((pbk T n).2.2.2.2) k)))) xl) := hD
                                  refine lv_iinc (v := nI (k + 1)) (lv' := [(1, .int (nI (k + 1))), (0, .ref (ad 0))]) hx hb dX3_book_292 hl (k := 1) rfl (nI_add k 1) (by decide) rfl (fun ls hl => ?_)
                                  refine lv_goto (tgt := 274) hx hb dX3_book_295 (by decide) ?_
                                  rw [show va_up (va_cpy (pbk T n).2.2.2.2 (S.2.1 4) 0 0 k) k ((pbk T n).2.2.2.2 k) = va_cpy (pbk T n).2.2.2.2 (S.2.1 4) 0 0 (k + 1) by have h9 := zcpy_s (pbk T n).2.2.2.2 (S.2.1 4) 0 0 k; rw [Nat.zero_add] at h9; exact h9] at hP hD
                                  exact ih_274 (by omega) _ _ _ _ _ ⟨rfl, rfl, hP, hD, hS, lv_sub hl [1, 0] rfl⟩
                              · rw [mW_up (cn := cn_193) (k := 4) (f := nF (va_cpy (pbk T n).2.2.2.2 (S.2.1 4) 0 0 0)) (by rw [zcpy_0]; exact (hcr_R239 4 (by decide)).trans hc4)] at hP
                                rw [mW_up (cn := cn_193) (k := 4) (f := nF (va_cpy (pbk T n).2.2.2.2 (S.2.1 4) 0 0 0)) (by rw [zcpy_0]; exact (hcr_R239 4 (by decide)).trans hc4)] at hD
                                have hP : va_P g.1 zCL (mW g ad (va_up (va_up fi_193 8 (nI 0)) 12 (nI 0)) (va_up cn_193 4 (nF (va_cpy (pbk T n).2.2.2.2 (S.2.1 4) 0 0 0))) xl) _ := hP
                                have hD : va_D (mA ad s.heap.size) (mW g ad (va_up (va_up fi_193 8 (nI 0)) 12 (nI 0)) (va_up cn_193 4 (nF (va_cpy (pbk T n).2.2.2.2 (S.2.1 4) 0 0 0))) xl) := hD
                                exact ⟨rfl, rfl, hP, hD, hS, lv_sub hl [1, 0] rfl⟩
                            · refine lv_aload_n hx hb dX3_book_251 rfl (lv_at hl 0 rfl) ?_
                              refine lv_aload_n hx hb dX3_book_252 rfl (lv_at hl 0 rfl) ?_
                              refine va_get (D := g.1) (ci := 3) (v := .int (fi_193 17)) (C := RX3) (T := TX3) (N := 30) hx hb hts in_X3 hown hK hP 0 rfl rfl 17 (by decide) (hts _ q1314) (fun _ h9 => h9) rfl dX3_book_253 ?_
                              refine zti (hq17_R239) ?_
                              refine va_put (D := g.1) (ci := 3) (v := .int (nI ((pbk T n).2.1))) (ty := .int) (C := RX3) (T := TX3) (N := 30) hx hb hts in_X3 tyX3 tyX3_ok nmX3 hown hK hP hD hS 0 rfl rfl 19 (by decide) (hts _ q1316) (fun _ h9 => h9) rfl (by decide +kernel) rfl rfl (Nat.le_of_ble_eq_true rfl) dX3_book_256 (fun H locs hP hD hS => ?_)
                              have hP : va_P g.1 zCL (mW g ad (va_up (va_up fi_193 12 (nI 0)) 19 (nI ((pbk T n).2.1))) cn_193 xl) _ := hP
                              have hD : va_D (mA ad s.heap.size) (mW g ad (va_up (va_up fi_193 12 (nI 0)) 19 (nI ((pbk T n).2.1))) cn_193 xl) := hD
                              refine lv_ldc hx hb hown (hts _ q1466) dX3_book_259 ?_
                              refine lv_aload_n hx hb dX3_book_261 rfl (lv_at hl 0 rfl) ?_
                              refine va_get (D := g.1) (ci := 3) (v := .int (fi_193 18)) (C := RX3) (T := TX3) (N := 30) hx hb hts in_X3 hown hK hP 0 rfl rfl 18 (by decide) (hts _ q1315) (fun _ h9 => h9) rfl dX3_book_262 ?_
                              refine lv_isub hx hb dX3_book_265 ?_
                              exact W.iret (v := (-1000100) - (fi_193 18)) hx hb hr (fun t ht hW => ⟨⟨(-1000100) - (fi_193 18), (va_up (va_up fi_193 12 (nI 0)) 19 (nI ((pbk T n).2.1)), cn_193, xl), rfl, (by unfold opBook; rw [hT11, hn12, zif_t c_248]; exact ⟨(congrArg (fun z => -1000100 - z) (hq18_R239 c_248)), ⟨((hfr_R239 0 (by decide)).trans hf0), ((hfr_R239 8 (by decide)).trans hf8), rfl, rfl, ((hfr_R239 29 (by decide)).trans hf29), ((hcr_R239 1 (by decide)).trans hc1), ((hcr_R239 2 (by decide)).trans hc2), ((hcr_R239 3 (by decide)).trans hc3), ((hcr_R239 4 (by decide)).trans hc4), ((hcr_R239 7 (by decide)).trans hc7), ((hcr_R239 11 (by decide)).trans hc11), ((hcr_R239 26 (by decide)).trans hc26), ((hcr_R239 27 (by decide)).trans hc27), ((hcr_R239 28 (by decide)).trans hc28)⟩, ⟨_, _, _, _, _, _, _, _, _, hq5_R239, ((hcr_R239 6 (by decide)).trans hc6), ((hcr_R239 9 (by decide)).trans hc9), ((hcr_R239 10 (by decide)).trans hc10), ((hcr_R239 24 (by decide)).trans hc24), ((hcr_R239 25 (by decide)).trans hc25), hc21, hc22, ((hfr_R239 23 (by decide)).trans hf23)⟩⟩), by rw [ht]; exact hP, hD⟩, hS.F ht⟩) hS.2.2 dX3_book_266
                          · refine lv_aload_n hx hb dX3_book_234 rfl (lv_at hl 0 rfl) ?_
                            refine lv_iconst (v := nI 4) hx hb dX3_book_235 (by decide) ?_
                            have hle_236 := hS.1
                            refine va_callv (va_runV (As := [.int (nI 4)]) (rest := []) ⟨hx, hb, hml, hown, hts⟩ (m_X3_bad l g ad fi_193 cn_193 xl _ T n (pbk3 T n) (show PF T n (pbk3 T n) fi_193 cn_193 from ⟨hq13_R213, hq14_R213, hq15_R213, hq16_R213, hq17_R213, hq18_R213, hq20_R213, hq5_R213, hq12_R213, hq11_R213⟩) hO_R213 4 (by decide)) (cwV 1 hts (lw_V q1442 q1444 qs34 q69 q1445) rfl rfl rfl hdV_X3_bad ⟨Nat.le_of_ble_eq_true rfl, Nat.le_of_ble_eq_true rfl⟩) (zpreV hK hN (va_recv hK hP (ci := 3) (q0 := 0) rfl rfl) ⟨rfl, hP, hD.weaken (fun _ _ _ _ => trivial)⟩) rfl rfl hl.1 rfl (lv_room (Nat.le_of_ble_eq_true rfl)) dX3_book_236 ⟨Nat.le_of_ble_eq_true rfl, Nat.le_of_ble_eq_true rfl⟩) hS (fun q _ h => mA_le hS.1 q h) (mA_le hS.1) (fun u t H locs ht hvm hw_236 hB hzz hkk hS => ?_)
                            obtain ⟨hP, hD⟩ := hB
                            rw [ht] at hP
                            have hD := hD.weaken (fun _ _ _ h => mA_le hle_236 _ h)
                            obtain ⟨fi_239, cn_239, xl_239⟩ := u
                            obtain ⟨_, hPF_239, hO_239, hxl_239, hfr_239, hcr_239⟩ := hw_236
                            have hxl_239 : xl = xl_239 := hxl_239.symm
                            subst hxl_239
                            have hPF_239 : PF T n (pbad 4 (pbk3 T n)) fi_239 cn_239 := hPF_239
                            have hO_239 : PO T n (pbad 4 (pbk3 T n)) := hO_239
                            have ho__239 := hO_239
                            obtain ⟨ho1_239, _, _, ho4_239, ho16_239, hoF_239⟩ := ho__239
                            have he13_239 := tkE_le (T := T) ho1_239
                            have hk15_239 := tkK_le T n (pbad 4 (pbk3 T n)).1
                            obtain ⟨hq13_239, hq14_239, hq15_239, hq16_239, hq17_239, hq18_239, hq20_239, hq5_239, hq12_239, hq11_239⟩ := hPF_239
                            have hfr_239 : ∀ k, (k < 13 ∨ 20 < k ∨ k = 19) → fi_239 k = fi k := fun k hk => (hfr_239 k hk).trans (hfr_R213 k hk)
                            have hcr_239 : ∀ k, k ≠ 5 → cn_239 k = cn k := fun k hk => (hcr_239 k hk).trans (hcr_R213 k hk)
                            have hP : va_P g.1 zCL (mW g ad fi_239 cn_239 xl) _ := hP
                            have hD : va_D (mA ad s.heap.size) (mW g ad fi_239 cn_239 xl) := hD
                            have hPF_R239 : PF T n (pbk T n) fi_239 cn_239 := (by rw [show pbk T n = pbad 4 (pbk3 T n) from zif_f c_231]; exact ⟨hq13_239, hq14_239, hq15_239, hq16_239, hq17_239, hq18_239, hq20_239, hq5_239, hq12_239, hq11_239⟩)
                            have hO_R239 : PO T n (pbk T n) := (by rw [show pbk T n = pbad 4 (pbk3 T n) from zif_f c_231]; exact hO_239)
                            have ho__R239 := hO_R239
                            obtain ⟨ho1_R239, _, _, ho4_R239, ho16_R239, hoF_R239⟩ := ho__R239
                            have he13_R239 := tkE_le (T := T) ho1_R239
                            have hk15_R239 := tkK_le T n (pbk T n).1
                            obtain ⟨hq13_R239, hq14_R239, hq15_R239, hq16_R239, hq17_R239, hq18_R239, hq20_R239, hq5_R239, hq12_R239, hq11_R239⟩ := hPF_R239
                            have hfr_R239 := hfr_239
                            have hcr_R239 := hcr_239
                            refine lv_aload_n hx hb dX3_book_239 rfl (lv_at hl 0 rfl) ?_
                            refine lv_iconst (v := nI 0) hx hb dX3_book_240 (by decide) ?_
                            refine va_put (D := g.1) (ci := 3) (v := .int (nI 0)) (ty := .int) (C := RX3) (T := TX3) (N := 30) hx hb hts in_X3 tyX3 tyX3_ok nmX3 hown hK hP hD hS 0 rfl rfl 12 (by decide) (hts _ q1309) (fun _ h9 => h9) rfl (by decide +kernel) rfl rfl (Nat.le_of_ble_eq_true rfl) dX3_book_241 (fun H locs hP hD hS => ?_)
                            have hP : va_P g.1 zCL (mW g ad (va_up fi_239 12 (nI 0)) cn_239 xl) _ := hP
                            have hD : va_D (mA ad s.heap.size) (mW g ad (va_up fi_239 12 (nI 0)) cn_239 xl) := hD
                            refine lv_aload_n hx hb dX3_book_244 rfl (lv_at hl 0 rfl) ?_
                            refine va_get (D := g.1) (ci := 3) (v := .int (fi_239 17)) (C := RX3) (T := TX3) (N := 30) hx hb hts in_X3 hown hK hP 0 rfl rfl 17 (by decide) (hts _ q1314) (fun _ h9 => h9) rfl dX3_book_245 ?_
                            refine zti (hq17_R239) ?_
                            refine zi_le (tgt := 267) hx hb (by omega) dX3_book_248 (by decide) (fun c_248 => ?_) (fun c_248 => ?_)
                            · refine lv_aload_n hx hb dX3_book_267 rfl (lv_at hl 0 rfl) ?_
                              refine lv_iconst (v := nI 0) hx hb dX3_book_268 (by decide) ?_
                              refine va_put (D := g.1) (ci := 3) (v := .int (nI 0)) (ty := .int) (C := RX3) (T := TX3) (N := 30) hx hb hts in_X3 tyX3 tyX3_ok nmX3 hown hK hP hD hS 0 rfl rfl 8 (by decide) (hts _ q1305) (fun _ h9 => h9) rfl (by decide +kernel) rfl rfl (Nat.le_of_ble_eq_true rfl) dX3_book_269 (fun H locs hP hD hS => ?_)
                              have hP : va_P g.1 zCL (mW g ad (va_up (va_up fi_239 8 (nI 0)) 12 (nI 0)) cn_239 xl) _ := hP
                              have hD : va_D (mA ad s.heap.size) (mW g ad (va_up (va_up fi_239 8 (nI 0)) 12 (nI 0)) cn_239 xl) := hD
                              refine lv_iconst (v := nI 0) hx hb dX3_book_272 (by decide) ?_
                              refine lv_istore_n (lv' := [(1, .int (nI 0)), (0, .ref (ad 0))]) hx hb dX3_book_273 rfl hl (by decide) rfl (fun ls hl => ?_)
                              refine zloopW (head := 274) (44) (fun k H locs cells slots ls => cells = 0 ∧ slots = 0 ∧ va_P g.1 zCL (mW g ad (va_up (va_up fi_239 8 (nI 0)) 12 (nI 0)) (va_up cn_239 4 (nF (va_cpy (pbk T n).2.2.2.2 (S.2.1 4) 0 0 k))) xl) H ∧ va_D (mA ad s.heap.size) (mW g ad (va_up (va_up fi_239 8 (nI 0)) 12 (nI 0)) (va_up cn_239 4 (nF (va_cpy (pbk T n).2.2.2.2 (S.2.1 4) 0 0 k))) xl) ∧ va_S (mA ad s.heap.size) s.heap H locs ∧ lv_has ls 2 [(0, .ref (ad 0)), (1, .int (nI k))]) (fun k hv_k ih_274 H locs cells slots ls hI => ?_) 0 (Nat.zero_le _) ?_
                              · obtain ⟨rfl, rfl, hP, hD, hS, hl⟩ := hI
                                refine lv_iload_n hx hb dX3_book_274 rfl (lv_at hl 1 rfl) ?_
                                refine lv_bipush (v := nI 44) hx hb dX3_book_275 (by decide) ?_
                                refine zc_ge (tgt := 298) hx hb (by omega) (by omega) dX3_book_277 (by decide) (fun c_277 => ?_) (fun c_277 => ?_)
                                · obtain rfl : 44 = k := by omega
                                  obtain ⟨hP, hD⟩ := hP.exi hD 4 (f' := nF (pbk T n).2.2.2.2) rfl (fun j hj => by show nI (va_cpy _ _ 0 0 44 j) = nI ((pbk T n).2.2.2.2 j); rw [zcpy_in (by omega) (by omega)]; rw [Nat.zero_add, Nat.sub_zero])
                                  have hP : va_P g.1 zCL (mW g ad (va_up (va_up fi_239 8 (nI 0)) 12 (nI 0)) (va_up cn_239 4 (nF (pbk T n).2.2.2.2)) xl) _ := hP
                                  have hD : va_D (mA ad s.heap.size) (mW g ad (va_up (va_up fi_239 8 (nI 0)) 12 (nI 0)) (va_up cn_239 4 (nF (pbk T n).2.2.2.2)) xl) := hD
                                  refine lv_aload_n hx hb dX3_book_298 rfl (lv_at hl 0 rfl) ?_
                                  refine va_get (D := g.1) (ci := 3) (v := .ref (ad 4)) (C := RX3) (T := TX3) (N := 30) hx hb hts in_X3 hown hK hP 0 rfl rfl 4 (by decide) (hts _ q1301) (fun _ h9 => h9) rfl dX3_book_299 ?_
                                  refine lv_iconst (v := nI 0) hx hb dX3_book_302 (by decide) ?_
                                  refine zald hx hb hK hP 4 0 rfl rfl (j := 0) (by omega) (by decide) dX3_book_303 ?_
                                  refine zti (show (nF ((pbk T n).2.2.2.2)) 0 = nI (((pbk T n).2.2.2.2) 0) from rfl) ?_
                                  exact W.iret (v := nI (((pbk T n).2.2.2.2) 0)) hx hb hr (fun t ht hW => ⟨⟨nI (((pbk T n).2.2.2.2) 0), (va_up (va_up fi_239 8 (nI 0)) 12 (nI 0), va_up cn_239 4 (nF (pbk T n).2.2.2.2), xl), rfl, (by unfold opBook; rw [hT11, hn12, zif_f c_248]; exact ⟨rfl, ⟨((hfr_R239 0 (by decide)).trans hf0), rfl, rfl, ((hfr_R239 19 (by decide)).trans hf19), ((hfr_R239 29 (by decide)).trans hf29), ((hcr_R239 1 (by decide)).trans hc1), ((hcr_R239 2 (by decide)).trans hc2), ((hcr_R239 3 (by decide)).trans hc3), rfl, ((hcr_R239 7 (by decide)).trans hc7), ((hcr_R239 11 (by decide)).trans hc11), ((hcr_R239 26 (by decide)).trans hc26), ((hcr_R239 27 (by decide)).trans hc27), ((hcr_R239 28 (by decide)).trans hc28)⟩, ⟨_, _, _, _, _, _, _, _, _, hq5_R239, ((hcr_R239 6 (by decide)).trans hc6), ((hcr_R239 9 (by decide)).trans hc9), ((hcr_R239 10 (by decide)).trans hc10), ((hcr_R239 24 (by decide)).trans hc24), ((hcr_R239 25 (by decide)).trans hc25), hc21, hc22, ((hfr_R239 23 (by decide)).trans hf23)⟩⟩), by rw [ht]; exact hP, hD⟩, hS.F ht⟩) hS.2.2 dX3_book_304
                                · refine lv_aload_n hx hb dX3_book_280 rfl (lv_at hl 0 rfl) ?_
                                  refine va_get (D := g.1) (ci := 3) (v := .ref (ad 4)) (C := RX3) (T := TX3) (N := 30) hx hb hts in_X3 hown hK hP 0 rfl rfl 4 (by decide) (hts _ q1301) (fun _ h9 => h9) rfl dX3_book_281 ?_
                                  refine lv_iload_n hx hb dX3_book_284 rfl (lv_at hl 1 rfl) ?_
                                  refine lv_aload_n hx hb dX3_book_285 rfl (lv_at hl 0 rfl) ?_
                                  refine va_get (D := g.1) (ci := 3) (v := .ref (ad 5)) (C := RX3) (T := TX3) (N := 30) hx hb hts in_X3 hown hK hP 0 rfl rfl 5 (by decide) (hts _ q1302) (fun _ h9 => h9) rfl dX3_book_286 ?_
                                  refine lv_iload_n hx hb dX3_book_289 rfl (lv_at hl 1 rfl) ?_
                                  refine zald hx hb hK hP 5 0 rfl rfl (j := k) (by omega) (by decide) dX3_book_290 ?_
                                  refine zti (congrFun hq5_R239 _) ?_
                                  refine zti (show (nF ((pbk T n).2.2.2.2)) k = nI (((pbk T n).2.2.2.2) k) from rfl) ?_
                                  refine zast (f := nF (va_cpy (pbk T n).2.2.2.2 (S.2.1 4) 0 0 k)) hx hb hK hP hD hS 4 0 rfl rfl (j := k) (by omega) (by decide) dX3_book_291 (fun H locs hP hD hS => ?_)
                                  rw [nF_up] at hP hD
                                  have hP : va_P g.1 zCL (mW g ad (va_up (va_up fi_239 8 (nI 0)) 12 (nI 0)) (va_up cn_239 4 (nF (va_up (va_cpy (pbk T n).2.2.2.2 (S.2.1 4) 0 0 k) k (((pbk T n).2.2.2.2) k)))) xl) _ := hP
                                  have hD : va_D (mA ad s.heap.size) (mW g ad (va_up (va_up fi_239 8 (nI 0)) 12 (nI 0)) (va_up cn_239 4 (nF (va_up (va_cpy (pbk T n).2.2.2.2 (S.2.1 4) 0 0 k) k (((pbk T n).2.2.2.2) k)))) xl) := hD
                                  refine lv_iinc (v := nI (k + 1)) (lv' := [(1, .int (nI (k + 1))), (0, .ref (ad 0))]) hx hb dX3_book_292 hl (k := 1) rfl (nI_add k 1) (by decide) rfl (fun ls hl => ?_)
                                  refine lv_goto (tgt := 274) hx hb dX3_book_295 (by decide) ?_
                                  rw [show va_up (va_cpy (pbk T n).2.2.2.2 (S.2.1 4) 0 0 k) k ((pbk T n).2.2.2.2 k) = va_cpy (pbk T n).2.2.2.2 (S.2.1 4) 0 0 (k + 1) by have h9 := zcpy_s (pbk T n).2.2.2.2 (S.2.1 4) 0 0 k; rw [Nat.zero_add] at h9; exact h9] at hP hD
                                  exact ih_274 (by omega) _ _ _ _ _ ⟨rfl, rfl, hP, hD, hS, lv_sub hl [1, 0] rfl⟩
                              · rw [mW_up (cn := cn_239) (k := 4) (f := nF (va_cpy (pbk T n).2.2.2.2 (S.2.1 4) 0 0 0)) (by rw [zcpy_0]; exact (hcr_R239 4 (by decide)).trans hc4)] at hP
                                rw [mW_up (cn := cn_239) (k := 4) (f := nF (va_cpy (pbk T n).2.2.2.2 (S.2.1 4) 0 0 0)) (by rw [zcpy_0]; exact (hcr_R239 4 (by decide)).trans hc4)] at hD
                                have hP : va_P g.1 zCL (mW g ad (va_up (va_up fi_239 8 (nI 0)) 12 (nI 0)) (va_up cn_239 4 (nF (va_cpy (pbk T n).2.2.2.2 (S.2.1 4) 0 0 0))) xl) _ := hP
                                have hD : va_D (mA ad s.heap.size) (mW g ad (va_up (va_up fi_239 8 (nI 0)) 12 (nI 0)) (va_up cn_239 4 (nF (va_cpy (pbk T n).2.2.2.2 (S.2.1 4) 0 0 0))) xl) := hD
                                exact ⟨rfl, rfl, hP, hD, hS, lv_sub hl [1, 0] rfl⟩
                            · refine lv_aload_n hx hb dX3_book_251 rfl (lv_at hl 0 rfl) ?_
                              refine lv_aload_n hx hb dX3_book_252 rfl (lv_at hl 0 rfl) ?_
                              refine va_get (D := g.1) (ci := 3) (v := .int (fi_239 17)) (C := RX3) (T := TX3) (N := 30) hx hb hts in_X3 hown hK hP 0 rfl rfl 17 (by decide) (hts _ q1314) (fun _ h9 => h9) rfl dX3_book_253 ?_
                              refine zti (hq17_R239) ?_
                              refine va_put (D := g.1) (ci := 3) (v := .int (nI ((pbk T n).2.1))) (ty := .int) (C := RX3) (T := TX3) (N := 30) hx hb hts in_X3 tyX3 tyX3_ok nmX3 hown hK hP hD hS 0 rfl rfl 19 (by decide) (hts _ q1316) (fun _ h9 => h9) rfl (by decide +kernel) rfl rfl (Nat.le_of_ble_eq_true rfl) dX3_book_256 (fun H locs hP hD hS => ?_)
                              have hP : va_P g.1 zCL (mW g ad (va_up (va_up fi_239 12 (nI 0)) 19 (nI ((pbk T n).2.1))) cn_239 xl) _ := hP
                              have hD : va_D (mA ad s.heap.size) (mW g ad (va_up (va_up fi_239 12 (nI 0)) 19 (nI ((pbk T n).2.1))) cn_239 xl) := hD
                              refine lv_ldc hx hb hown (hts _ q1466) dX3_book_259 ?_
                              refine lv_aload_n hx hb dX3_book_261 rfl (lv_at hl 0 rfl) ?_
                              refine va_get (D := g.1) (ci := 3) (v := .int (fi_239 18)) (C := RX3) (T := TX3) (N := 30) hx hb hts in_X3 hown hK hP 0 rfl rfl 18 (by decide) (hts _ q1315) (fun _ h9 => h9) rfl dX3_book_262 ?_
                              refine lv_isub hx hb dX3_book_265 ?_
                              exact W.iret (v := (-1000100) - (fi_239 18)) hx hb hr (fun t ht hW => ⟨⟨(-1000100) - (fi_239 18), (va_up (va_up fi_239 12 (nI 0)) 19 (nI ((pbk T n).2.1)), cn_239, xl), rfl, (by unfold opBook; rw [hT11, hn12, zif_t c_248]; exact ⟨(congrArg (fun z => -1000100 - z) (hq18_R239 c_248)), ⟨((hfr_R239 0 (by decide)).trans hf0), ((hfr_R239 8 (by decide)).trans hf8), rfl, rfl, ((hfr_R239 29 (by decide)).trans hf29), ((hcr_R239 1 (by decide)).trans hc1), ((hcr_R239 2 (by decide)).trans hc2), ((hcr_R239 3 (by decide)).trans hc3), ((hcr_R239 4 (by decide)).trans hc4), ((hcr_R239 7 (by decide)).trans hc7), ((hcr_R239 11 (by decide)).trans hc11), ((hcr_R239 26 (by decide)).trans hc26), ((hcr_R239 27 (by decide)).trans hc27), ((hcr_R239 28 (by decide)).trans hc28)⟩, ⟨_, _, _, _, _, _, _, _, _, hq5_R239, ((hcr_R239 6 (by decide)).trans hc6), ((hcr_R239 9 (by decide)).trans hc9), ((hcr_R239 10 (by decide)).trans hc10), ((hcr_R239 24 (by decide)).trans hc24), ((hcr_R239 25 (by decide)).trans hc25), hc21, hc22, ((hfr_R239 23 (by decide)).trans hf23)⟩⟩), by rw [ht]; exact hP, hD⟩, hS.F ht⟩) hS.2.2 dX3_book_266
                      · refine lv_aload_n hx hb dX3_book_200 rfl (lv_at hl 0 rfl) ?_
                        refine va_get (D := g.1) (ci := 3) (v := .int (fi_193 15)) (C := RX3) (T := TX3) (N := 30) hx hb hts in_X3 hown hK hP 0 rfl rfl 15 (by decide) (hts _ q1312) (fun _ h9 => h9) rfl dX3_book_201 ?_
                        refine zti (hq15_R193) ?_
                        refine lv_iconst (v := nI 1) hx hb dX3_book_204 (by decide) ?_
                        refine zc_eq (tgt := 213) hx hb (by omega) (by omega) dX3_book_205 (by decide) (fun c_205 => ?_) (fun c_205 => ?_)
                        · have hPF_R213 : PF T n (pbk3 T n) fi_193 cn_193 := (by rw [show pbk3 T n = pbk2 T n from zif_t c_205]; exact ⟨hq13_R193, hq14_R193, hq15_R193, hq16_R193, hq17_R193, hq18_R193, hq20_R193, hq5_R193, hq12_R193, hq11_R193⟩)
                          have hO_R213 : PO T n (pbk3 T n) := (by rw [show pbk3 T n = pbk2 T n from zif_t c_205]; exact hO_R193)
                          have ho__R213 := hO_R213
                          obtain ⟨ho1_R213, _, _, ho4_R213, ho16_R213, hoF_R213⟩ := ho__R213
                          have he13_R213 := tkE_le (T := T) ho1_R213
                          have hk15_R213 := tkK_le T n (pbk3 T n).1
                          obtain ⟨hq13_R213, hq14_R213, hq15_R213, hq16_R213, hq17_R213, hq18_R213, hq20_R213, hq5_R213, hq12_R213, hq11_R213⟩ := hPF_R213
                          have hfr_R213 := hfr_R193
                          have hcr_R213 := hcr_R193
                          refine lv_aload_n hx hb dX3_book_213 rfl (lv_at hl 0 rfl) ?_
                          refine va_get (D := g.1) (ci := 3) (v := .int (fi_193 17)) (C := RX3) (T := TX3) (N := 30) hx hb hts in_X3 hown hK hP 0 rfl rfl 17 (by decide) (hts _ q1314) (fun _ h9 => h9) rfl dX3_book_214 ?_
                          refine zti (hq17_R213) ?_
                          refine zi_ne (tgt := 239) hx hb (by omega) dX3_book_217 (by decide) (fun c_217 => ?_) (fun c_217 => ?_)
                          · have hPF_R239 : PF T n (pbk T n) fi_193 cn_193 := (by rw [show pbk T n = pbk3 T n from zif_same (pbad_id c_217)]; exact ⟨hq13_R213, hq14_R213, hq15_R213, hq16_R213, hq17_R213, hq18_R213, hq20_R213, hq5_R213, hq12_R213, hq11_R213⟩)
                            have hO_R239 : PO T n (pbk T n) := (by rw [show pbk T n = pbk3 T n from zif_same (pbad_id c_217)]; exact hO_R213)
                            have ho__R239 := hO_R239
                            obtain ⟨ho1_R239, _, _, ho4_R239, ho16_R239, hoF_R239⟩ := ho__R239
                            have he13_R239 := tkE_le (T := T) ho1_R239
                            have hk15_R239 := tkK_le T n (pbk T n).1
                            obtain ⟨hq13_R239, hq14_R239, hq15_R239, hq16_R239, hq17_R239, hq18_R239, hq20_R239, hq5_R239, hq12_R239, hq11_R239⟩ := hPF_R239
                            have hfr_R239 := hfr_R213
                            have hcr_R239 := hcr_R213
                            refine lv_aload_n hx hb dX3_book_239 rfl (lv_at hl 0 rfl) ?_
                            refine lv_iconst (v := nI 0) hx hb dX3_book_240 (by decide) ?_
                            refine va_put (D := g.1) (ci := 3) (v := .int (nI 0)) (ty := .int) (C := RX3) (T := TX3) (N := 30) hx hb hts in_X3 tyX3 tyX3_ok nmX3 hown hK hP hD hS 0 rfl rfl 12 (by decide) (hts _ q1309) (fun _ h9 => h9) rfl (by decide +kernel) rfl rfl (Nat.le_of_ble_eq_true rfl) dX3_book_241 (fun H locs hP hD hS => ?_)
                            have hP : va_P g.1 zCL (mW g ad (va_up fi_193 12 (nI 0)) cn_193 xl) _ := hP
                            have hD : va_D (mA ad s.heap.size) (mW g ad (va_up fi_193 12 (nI 0)) cn_193 xl) := hD
                            refine lv_aload_n hx hb dX3_book_244 rfl (lv_at hl 0 rfl) ?_
                            refine va_get (D := g.1) (ci := 3) (v := .int (fi_193 17)) (C := RX3) (T := TX3) (N := 30) hx hb hts in_X3 hown hK hP 0 rfl rfl 17 (by decide) (hts _ q1314) (fun _ h9 => h9) rfl dX3_book_245 ?_
                            refine zti (hq17_R239) ?_
                            refine zi_le (tgt := 267) hx hb (by omega) dX3_book_248 (by decide) (fun c_248 => ?_) (fun c_248 => ?_)
                            · refine lv_aload_n hx hb dX3_book_267 rfl (lv_at hl 0 rfl) ?_
                              refine lv_iconst (v := nI 0) hx hb dX3_book_268 (by decide) ?_
                              refine va_put (D := g.1) (ci := 3) (v := .int (nI 0)) (ty := .int) (C := RX3) (T := TX3) (N := 30) hx hb hts in_X3 tyX3 tyX3_ok nmX3 hown hK hP hD hS 0 rfl rfl 8 (by decide) (hts _ q1305) (fun _ h9 => h9) rfl (by decide +kernel) rfl rfl (Nat.le_of_ble_eq_true rfl) dX3_book_269 (fun H locs hP hD hS => ?_)
                              have hP : va_P g.1 zCL (mW g ad (va_up (va_up fi_193 8 (nI 0)) 12 (nI 0)) cn_193 xl) _ := hP
                              have hD : va_D (mA ad s.heap.size) (mW g ad (va_up (va_up fi_193 8 (nI 0)) 12 (nI 0)) cn_193 xl) := hD
                              refine lv_iconst (v := nI 0) hx hb dX3_book_272 (by decide) ?_
                              refine lv_istore_n (lv' := [(1, .int (nI 0)), (0, .ref (ad 0))]) hx hb dX3_book_273 rfl hl (by decide) rfl (fun ls hl => ?_)
                              refine zloopW (head := 274) (44) (fun k H locs cells slots ls => cells = 0 ∧ slots = 0 ∧ va_P g.1 zCL (mW g ad (va_up (va_up fi_193 8 (nI 0)) 12 (nI 0)) (va_up cn_193 4 (nF (va_cpy (pbk T n).2.2.2.2 (S.2.1 4) 0 0 k))) xl) H ∧ va_D (mA ad s.heap.size) (mW g ad (va_up (va_up fi_193 8 (nI 0)) 12 (nI 0)) (va_up cn_193 4 (nF (va_cpy (pbk T n).2.2.2.2 (S.2.1 4) 0 0 k))) xl) ∧ va_S (mA ad s.heap.size) s.heap H locs ∧ lv_has ls 2 [(0, .ref (ad 0)), (1, .int (nI k))]) (fun k hv_k ih_274 H locs cells slots ls hI => ?_) 0 (Nat.zero_le _) ?_
                              · obtain ⟨rfl, rfl, hP, hD, hS, hl⟩ := hI
                                refine lv_iload_n hx hb dX3_book_274 rfl (lv_at hl 1 rfl) ?_
                                refine lv_bipush (v := nI 44) hx hb dX3_book_275 (by decide) ?_
                                refine zc_ge (tgt := 298) hx hb (by omega) (by omega) dX3_book_277 (by decide) (fun c_277 => ?_) (fun c_277 => ?_)
                                · obtain rfl : 44 = k := by omega
                                  obtain ⟨hP, hD⟩ := hP.exi hD 4 (f' := nF (pbk T n).2.2.2.2) rfl (fun j hj => by show nI (va_cpy _ _ 0 0 44 j) = nI ((pbk T n).2.2.2.2 j); rw [zcpy_in (by omega) (by omega)]; rw [Nat.zero_add, Nat.sub_zero])
                                  have hP : va_P g.1 zCL (mW g ad (va_up (va_up fi_193 8 (nI 0)) 12 (nI 0)) (va_up cn_193 4 (nF (pbk T n).2.2.2.2)) xl) _ := hP
                                  have hD : va_D (mA ad s.heap.size) (mW g ad (va_up (va_up fi_193 8 (nI 0)) 12 (nI 0)) (va_up cn_193 4 (nF (pbk T n).2.2.2.2)) xl) := hD
                                  refine lv_aload_n hx hb dX3_book_298 rfl (lv_at hl 0 rfl) ?_
                                  refine va_get (D := g.1) (ci := 3) (v := .ref (ad 4)) (C := RX3) (T := TX3) (N := 30) hx hb hts in_X3 hown hK hP 0 rfl rfl 4 (by decide) (hts _ q1301) (fun _ h9 => h9) rfl dX3_book_299 ?_
                                  refine lv_iconst (v := nI 0) hx hb dX3_book_302 (by decide) ?_
                                  refine zald hx hb hK hP 4 0 rfl rfl (j := 0) (by omega) (by decide) dX3_book_303 ?_
                                  refine zti (show (nF ((pbk T n).2.2.2.2)) 0 = nI (((pbk T n).2.2.2.2) 0) from rfl) ?_
                                  exact W.iret (v := nI (((pbk T n).2.2.2.2) 0)) hx hb hr (fun t ht hW => ⟨⟨nI (((pbk T n).2.2.2.2) 0), (va_up (va_up fi_193 8 (nI 0)) 12 (nI 0), va_up cn_193 4 (nF (pbk T n).2.2.2.2), xl), rfl, (by unfold opBook; rw [hT11, hn12, zif_f c_248]; exact ⟨rfl, ⟨((hfr_R239 0 (by decide)).trans hf0), rfl, rfl, ((hfr_R239 19 (by decide)).trans hf19), ((hfr_R239 29 (by decide)).trans hf29), ((hcr_R239 1 (by decide)).trans hc1), ((hcr_R239 2 (by decide)).trans hc2), ((hcr_R239 3 (by decide)).trans hc3), rfl, ((hcr_R239 7 (by decide)).trans hc7), ((hcr_R239 11 (by decide)).trans hc11), ((hcr_R239 26 (by decide)).trans hc26), ((hcr_R239 27 (by decide)).trans hc27), ((hcr_R239 28 (by decide)).trans hc28)⟩, ⟨_, _, _, _, _, _, _, _, _, hq5_R239, ((hcr_R239 6 (by decide)).trans hc6), ((hcr_R239 9 (by decide)).trans hc9), ((hcr_R239 10 (by decide)).trans hc10), ((hcr_R239 24 (by decide)).trans hc24), ((hcr_R239 25 (by decide)).trans hc25), hc21, hc22, ((hfr_R239 23 (by decide)).trans hf23)⟩⟩), by rw [ht]; exact hP, hD⟩, hS.F ht⟩) hS.2.2 dX3_book_304
                                · refine lv_aload_n hx hb dX3_book_280 rfl (lv_at hl 0 rfl) ?_
                                  refine va_get (D := g.1) (ci := 3) (v := .ref (ad 4)) (C := RX3) (T := TX3) (N := 30) hx hb hts in_X3 hown hK hP 0 rfl rfl 4 (by decide) (hts _ q1301) (fun _ h9 => h9) rfl dX3_book_281 ?_
                                  refine lv_iload_n hx hb dX3_book_284 rfl (lv_at hl 1 rfl) ?_
                                  refine lv_aload_n hx hb dX3_book_285 rfl (lv_at hl 0 rfl) ?_
                                  refine va_get (D := g.1) (ci := 3) (v := .ref (ad 5)) (C := RX3) (T := TX3) (N := 30) hx hb hts in_X3 hown hK hP 0 rfl rfl 5 (by decide) (hts _ q1302) (fun _ h9 => h9) rfl dX3_book_286 ?_
                                  refine lv_iload_n hx hb dX3_book_289 rfl (lv_at hl 1 rfl) ?_
                                  refine zald hx hb hK hP 5 0 rfl rfl (j := k) (by omega) (by decide) dX3_book_290 ?_
                                  refine zti (congrFun hq5_R239 _) ?_
                                  refine zti (show (nF ((pbk T n).2.2.2.2)) k = nI (((pbk T n).2.2.2.2) k) from rfl) ?_
                                  refine zast (f := nF (va_cpy (pbk T n).2.2.2.2 (S.2.1 4) 0 0 k)) hx hb hK hP hD hS 4 0 rfl rfl (j := k) (by omega) (by decide) dX3_book_291 (fun H locs hP hD hS => ?_)
                                  rw [nF_up] at hP hD
                                  have hP : va_P g.1 zCL (mW g ad (va_up (va_up fi_193 8 (nI 0)) 12 (nI 0)) (va_up cn_193 4 (nF (va_up (va_cpy (pbk T n).2.2.2.2 (S.2.1 4) 0 0 k) k (((pbk T n).2.2.2.2) k)))) xl) _ := hP
                                  have hD : va_D (mA ad s.heap.size) (mW g ad (va_up (va_up fi_193 8 (nI 0)) 12 (nI 0)) (va_up cn_193 4 (nF (va_up (va_cpy (pbk T n).2.2.2.2 (S.2.1 4) 0 0 k) k (((pbk T n).2.2.2.2) k)))) xl) := hD
                                  refine lv_iinc (v := nI (k + 1)) (lv' := [(1, .int (nI (k + 1))), (0, .ref (ad 0))]) hx hb dX3_book_292 hl (k := 1) rfl (nI_add k 1) (by decide) rfl (fun ls hl => ?_)
                                  refine lv_goto (tgt := 274) hx hb dX3_book_295 (by decide) ?_
                                  rw [show va_up (va_cpy (pbk T n).2.2.2.2 (S.2.1 4) 0 0 k) k ((pbk T n).2.2.2.2 k) = va_cpy (pbk T n).2.2.2.2 (S.2.1 4) 0 0 (k + 1) by have h9 := zcpy_s (pbk T n).2.2.2.2 (S.2.1 4) 0 0 k; rw [Nat.zero_add] at h9; exact h9] at hP hD
                                  exact ih_274 (by omega) _ _ _ _ _ ⟨rfl, rfl, hP, hD, hS, lv_sub hl [1, 0] rfl⟩
                              · rw [mW_up (cn := cn_193) (k := 4) (f := nF (va_cpy (pbk T n).2.2.2.2 (S.2.1 4) 0 0 0)) (by rw [zcpy_0]; exact (hcr_R239 4 (by decide)).trans hc4)] at hP
                                rw [mW_up (cn := cn_193) (k := 4) (f := nF (va_cpy (pbk T n).2.2.2.2 (S.2.1 4) 0 0 0)) (by rw [zcpy_0]; exact (hcr_R239 4 (by decide)).trans hc4)] at hD
                                have hP : va_P g.1 zCL (mW g ad (va_up (va_up fi_193 8 (nI 0)) 12 (nI 0)) (va_up cn_193 4 (nF (va_cpy (pbk T n).2.2.2.2 (S.2.1 4) 0 0 0))) xl) _ := hP
                                have hD : va_D (mA ad s.heap.size) (mW g ad (va_up (va_up fi_193 8 (nI 0)) 12 (nI 0)) (va_up cn_193 4 (nF (va_cpy (pbk T n).2.2.2.2 (S.2.1 4) 0 0 0))) xl) := hD
                                exact ⟨rfl, rfl, hP, hD, hS, lv_sub hl [1, 0] rfl⟩
                            · refine lv_aload_n hx hb dX3_book_251 rfl (lv_at hl 0 rfl) ?_
                              refine lv_aload_n hx hb dX3_book_252 rfl (lv_at hl 0 rfl) ?_
                              refine va_get (D := g.1) (ci := 3) (v := .int (fi_193 17)) (C := RX3) (T := TX3) (N := 30) hx hb hts in_X3 hown hK hP 0 rfl rfl 17 (by decide) (hts _ q1314) (fun _ h9 => h9) rfl dX3_book_253 ?_
                              refine zti (hq17_R239) ?_
                              refine va_put (D := g.1) (ci := 3) (v := .int (nI ((pbk T n).2.1))) (ty := .int) (C := RX3) (T := TX3) (N := 30) hx hb hts in_X3 tyX3 tyX3_ok nmX3 hown hK hP hD hS 0 rfl rfl 19 (by decide) (hts _ q1316) (fun _ h9 => h9) rfl (by decide +kernel) rfl rfl (Nat.le_of_ble_eq_true rfl) dX3_book_256 (fun H locs hP hD hS => ?_)
                              have hP : va_P g.1 zCL (mW g ad (va_up (va_up fi_193 12 (nI 0)) 19 (nI ((pbk T n).2.1))) cn_193 xl) _ := hP
                              have hD : va_D (mA ad s.heap.size) (mW g ad (va_up (va_up fi_193 12 (nI 0)) 19 (nI ((pbk T n).2.1))) cn_193 xl) := hD
                              refine lv_ldc hx hb hown (hts _ q1466) dX3_book_259 ?_
                              refine lv_aload_n hx hb dX3_book_261 rfl (lv_at hl 0 rfl) ?_
                              refine va_get (D := g.1) (ci := 3) (v := .int (fi_193 18)) (C := RX3) (T := TX3) (N := 30) hx hb hts in_X3 hown hK hP 0 rfl rfl 18 (by decide) (hts _ q1315) (fun _ h9 => h9) rfl dX3_book_262 ?_
                              refine lv_isub hx hb dX3_book_265 ?_
                              exact W.iret (v := (-1000100) - (fi_193 18)) hx hb hr (fun t ht hW => ⟨⟨(-1000100) - (fi_193 18), (va_up (va_up fi_193 12 (nI 0)) 19 (nI ((pbk T n).2.1)), cn_193, xl), rfl, (by unfold opBook; rw [hT11, hn12, zif_t c_248]; exact ⟨(congrArg (fun z => -1000100 - z) (hq18_R239 c_248)), ⟨((hfr_R239 0 (by decide)).trans hf0), ((hfr_R239 8 (by decide)).trans hf8), rfl, rfl, ((hfr_R239 29 (by decide)).trans hf29), ((hcr_R239 1 (by decide)).trans hc1), ((hcr_R239 2 (by decide)).trans hc2), ((hcr_R239 3 (by decide)).trans hc3), ((hcr_R239 4 (by decide)).trans hc4), ((hcr_R239 7 (by decide)).trans hc7), ((hcr_R239 11 (by decide)).trans hc11), ((hcr_R239 26 (by decide)).trans hc26), ((hcr_R239 27 (by decide)).trans hc27), ((hcr_R239 28 (by decide)).trans hc28)⟩, ⟨_, _, _, _, _, _, _, _, _, hq5_R239, ((hcr_R239 6 (by decide)).trans hc6), ((hcr_R239 9 (by decide)).trans hc9), ((hcr_R239 10 (by decide)).trans hc10), ((hcr_R239 24 (by decide)).trans hc24), ((hcr_R239 25 (by decide)).trans hc25), hc21, hc22, ((hfr_R239 23 (by decide)).trans hf23)⟩⟩), by rw [ht]; exact hP, hD⟩, hS.F ht⟩) hS.2.2 dX3_book_266
                          · refine lv_aload_n hx hb dX3_book_220 rfl (lv_at hl 0 rfl) ?_
                            refine va_get (D := g.1) (ci := 3) (v := .int (fi_193 20)) (C := RX3) (T := TX3) (N := 30) hx hb hts in_X3 hown hK hP 0 rfl rfl 20 (by decide) (hts _ q1317) (fun _ h9 => h9) rfl dX3_book_221 ?_
                            refine zti (hq20_R213) ?_
                            refine lv_aload_n hx hb dX3_book_224 rfl (lv_at hl 0 rfl) ?_
                            refine va_get (D := g.1) (ci := 3) (v := .ref (ad 5)) (C := RX3) (T := TX3) (N := 30) hx hb hts in_X3 hown hK hP 0 rfl rfl 5 (by decide) (hts _ q1302) (fun _ h9 => h9) rfl dX3_book_225 ?_
                            refine lv_iconst (v := nI 0) hx hb dX3_book_228 (by decide) ?_
                            refine zald hx hb hK hP 5 0 rfl rfl (j := 0) (by omega) (by decide) dX3_book_229 ?_
                            refine zti (congrFun hq5_R213 _) ?_
                            refine zti (show (nF ((pbk3 T n).2.2.2.2)) 0 = nI (((pbk3 T n).2.2.2.2) 0) from rfl) ?_
                            refine lv_ishr hx hb dX3_book_230 ?_
                            refine zti (show _ = nI ((pbk3 T n).2.2.2.1 / 2 ^ (pbk3 T n).2.2.2.2 0) from (zshr (by omega) (by omega))) ?_
                            have hdl : (pbk3 T n).2.2.2.1 / 2 ^ (pbk3 T n).2.2.2.2 0 ≤ (pbk3 T n).2.2.2.1 := Nat.div_le_self _ _
                            refine zi_eq (tgt := 239) hx hb (by omega) dX3_book_231 (by decide) (fun c_231 => ?_) (fun c_231 => ?_)
                            · have hPF_R239 : PF T n (pbk T n) fi_193 cn_193 := (by rw [show pbk T n = pbk3 T n from zif_t c_231]; exact ⟨hq13_R213, hq14_R213, hq15_R213, hq16_R213, hq17_R213, hq18_R213, hq20_R213, hq5_R213, hq12_R213, hq11_R213⟩)
                              have hO_R239 : PO T n (pbk T n) := (by rw [show pbk T n = pbk3 T n from zif_t c_231]; exact hO_R213)
                              have ho__R239 := hO_R239
                              obtain ⟨ho1_R239, _, _, ho4_R239, ho16_R239, hoF_R239⟩ := ho__R239
                              have he13_R239 := tkE_le (T := T) ho1_R239
                              have hk15_R239 := tkK_le T n (pbk T n).1
                              obtain ⟨hq13_R239, hq14_R239, hq15_R239, hq16_R239, hq17_R239, hq18_R239, hq20_R239, hq5_R239, hq12_R239, hq11_R239⟩ := hPF_R239
                              have hfr_R239 := hfr_R213
                              have hcr_R239 := hcr_R213
                              refine lv_aload_n hx hb dX3_book_239 rfl (lv_at hl 0 rfl) ?_
                              refine lv_iconst (v := nI 0) hx hb dX3_book_240 (by decide) ?_
                              refine va_put (D := g.1) (ci := 3) (v := .int (nI 0)) (ty := .int) (C := RX3) (T := TX3) (N := 30) hx hb hts in_X3 tyX3 tyX3_ok nmX3 hown hK hP hD hS 0 rfl rfl 12 (by decide) (hts _ q1309) (fun _ h9 => h9) rfl (by decide +kernel) rfl rfl (Nat.le_of_ble_eq_true rfl) dX3_book_241 (fun H locs hP hD hS => ?_)
                              have hP : va_P g.1 zCL (mW g ad (va_up fi_193 12 (nI 0)) cn_193 xl) _ := hP
                              have hD : va_D (mA ad s.heap.size) (mW g ad (va_up fi_193 12 (nI 0)) cn_193 xl) := hD
                              refine lv_aload_n hx hb dX3_book_244 rfl (lv_at hl 0 rfl) ?_
                              refine va_get (D := g.1) (ci := 3) (v := .int (fi_193 17)) (C := RX3) (T := TX3) (N := 30) hx hb hts in_X3 hown hK hP 0 rfl rfl 17 (by decide) (hts _ q1314) (fun _ h9 => h9) rfl dX3_book_245 ?_
                              refine zti (hq17_R239) ?_
                              refine zi_le (tgt := 267) hx hb (by omega) dX3_book_248 (by decide) (fun c_248 => ?_) (fun c_248 => ?_)
                              · refine lv_aload_n hx hb dX3_book_267 rfl (lv_at hl 0 rfl) ?_
                                refine lv_iconst (v := nI 0) hx hb dX3_book_268 (by decide) ?_
                                refine va_put (D := g.1) (ci := 3) (v := .int (nI 0)) (ty := .int) (C := RX3) (T := TX3) (N := 30) hx hb hts in_X3 tyX3 tyX3_ok nmX3 hown hK hP hD hS 0 rfl rfl 8 (by decide) (hts _ q1305) (fun _ h9 => h9) rfl (by decide +kernel) rfl rfl (Nat.le_of_ble_eq_true rfl) dX3_book_269 (fun H locs hP hD hS => ?_)
                                have hP : va_P g.1 zCL (mW g ad (va_up (va_up fi_193 8 (nI 0)) 12 (nI 0)) cn_193 xl) _ := hP
                                have hD : va_D (mA ad s.heap.size) (mW g ad (va_up (va_up fi_193 8 (nI 0)) 12 (nI 0)) cn_193 xl) := hD
                                refine lv_iconst (v := nI 0) hx hb dX3_book_272 (by decide) ?_
                                refine lv_istore_n (lv' := [(1, .int (nI 0)), (0, .ref (ad 0))]) hx hb dX3_book_273 rfl hl (by decide) rfl (fun ls hl => ?_)
                                refine zloopW (head := 274) (44) (fun k H locs cells slots ls => cells = 0 ∧ slots = 0 ∧ va_P g.1 zCL (mW g ad (va_up (va_up fi_193 8 (nI 0)) 12 (nI 0)) (va_up cn_193 4 (nF (va_cpy (pbk T n).2.2.2.2 (S.2.1 4) 0 0 k))) xl) H ∧ va_D (mA ad s.heap.size) (mW g ad (va_up (va_up fi_193 8 (nI 0)) 12 (nI 0)) (va_up cn_193 4 (nF (va_cpy (pbk T n).2.2.2.2 (S.2.1 4) 0 0 k))) xl) ∧ va_S (mA ad s.heap.size) s.heap H locs ∧ lv_has ls 2 [(0, .ref (ad 0)), (1, .int (nI k))]) (fun k hv_k ih_274 H locs cells slots ls hI => ?_) 0 (Nat.zero_le _) ?_
                                · obtain ⟨rfl, rfl, hP, hD, hS, hl⟩ := hI
                                  refine lv_iload_n hx hb dX3_book_274 rfl (lv_at hl 1 rfl) ?_
                                  refine lv_bipush (v := nI 44) hx hb dX3_book_275 (by decide) ?_
                                  refine zc_ge (tgt := 298) hx hb (by omega) (by omega) dX3_book_277 (by decide) (fun c_277 => ?_) (fun c_277 => ?_)
                                  · obtain rfl : 44 = k := by omega
                                    obtain ⟨hP, hD⟩ := hP.exi hD 4 (f' := nF (pbk T n).2.2.2.2) rfl (fun j hj => by show nI (va_cpy _ _ 0 0 44 j) = nI ((pbk T n).2.2.2.2 j); rw [zcpy_in (by omega) (by omega)]; rw [Nat.zero_add, Nat.sub_zero])
                                    have hP : va_P g.1 zCL (mW g ad (va_up (va_up fi_193 8 (nI 0)) 12 (nI 0)) (va_up cn_193 4 (nF (pbk T n).2.2.2.2)) xl) _ := hP
                                    have hD : va_D (mA ad s.heap.size) (mW g ad (va_up (va_up fi_193 8 (nI 0)) 12 (nI 0)) (va_up cn_193 4 (nF (pbk T n).2.2.2.2)) xl) := hD
                                    refine lv_aload_n hx hb dX3_book_298 rfl (lv_at hl 0 rfl) ?_
                                    refine va_get (D := g.1) (ci := 3) (v := .ref (ad 4)) (C := RX3) (T := TX3) (N := 30) hx hb hts in_X3 hown hK hP 0 rfl rfl 4 (by decide) (hts _ q1301) (fun _ h9 => h9) rfl dX3_book_299 ?_
                                    refine lv_iconst (v := nI 0) hx hb dX3_book_302 (by decide) ?_
                                    refine zald hx hb hK hP 4 0 rfl rfl (j := 0) (by omega) (by decide) dX3_book_303 ?_
                                    refine zti (show (nF ((pbk T n).2.2.2.2)) 0 = nI (((pbk T n).2.2.2.2) 0) from rfl) ?_
                                    exact W.iret (v := nI (((pbk T n).2.2.2.2) 0)) hx hb hr (fun t ht hW => ⟨⟨nI (((pbk T n).2.2.2.2) 0), (va_up (va_up fi_193 8 (nI 0)) 12 (nI 0), va_up cn_193 4 (nF (pbk T n).2.2.2.2), xl), rfl, (by unfold opBook; rw [hT11, hn12, zif_f c_248]; exact ⟨rfl, ⟨((hfr_R239 0 (by decide)).trans hf0), rfl, rfl, ((hfr_R239 19 (by decide)).trans hf19), ((hfr_R239 29 (by decide)).trans hf29), ((hcr_R239 1 (by decide)).trans hc1), ((hcr_R239 2 (by decide)).trans hc2), ((hcr_R239 3 (by decide)).trans hc3), rfl, ((hcr_R239 7 (by decide)).trans hc7), ((hcr_R239 11 (by decide)).trans hc11), ((hcr_R239 26 (by decide)).trans hc26), ((hcr_R239 27 (by decide)).trans hc27), ((hcr_R239 28 (by decide)).trans hc28)⟩, ⟨_, _, _, _, _, _, _, _, _, hq5_R239, ((hcr_R239 6 (by decide)).trans hc6), ((hcr_R239 9 (by decide)).trans hc9), ((hcr_R239 10 (by decide)).trans hc10), ((hcr_R239 24 (by decide)).trans hc24), ((hcr_R239 25 (by decide)).trans hc25), hc21, hc22, ((hfr_R239 23 (by decide)).trans hf23)⟩⟩), by rw [ht]; exact hP, hD⟩, hS.F ht⟩) hS.2.2 dX3_book_304
                                  · refine lv_aload_n hx hb dX3_book_280 rfl (lv_at hl 0 rfl) ?_
                                    refine va_get (D := g.1) (ci := 3) (v := .ref (ad 4)) (C := RX3) (T := TX3) (N := 30) hx hb hts in_X3 hown hK hP 0 rfl rfl 4 (by decide) (hts _ q1301) (fun _ h9 => h9) rfl dX3_book_281 ?_
                                    refine lv_iload_n hx hb dX3_book_284 rfl (lv_at hl 1 rfl) ?_
                                    refine lv_aload_n hx hb dX3_book_285 rfl (lv_at hl 0 rfl) ?_
                                    refine va_get (D := g.1) (ci := 3) (v := .ref (ad 5)) (C := RX3) (T := TX3) (N := 30) hx hb hts in_X3 hown hK hP 0 rfl rfl 5 (by decide) (hts _ q1302) (fun _ h9 => h9) rfl dX3_book_286 ?_
                                    refine lv_iload_n hx hb dX3_book_289 rfl (lv_at hl 1 rfl) ?_
                                    refine zald hx hb hK hP 5 0 rfl rfl (j := k) (by omega) (by decide) dX3_book_290 ?_
                                    refine zti (congrFun hq5_R239 _) ?_
                                    refine zti (show (nF ((pbk T n).2.2.2.2)) k = nI (((pbk T n).2.2.2.2) k) from rfl) ?_
                                    refine zast (f := nF (va_cpy (pbk T n).2.2.2.2 (S.2.1 4) 0 0 k)) hx hb hK hP hD hS 4 0 rfl rfl (j := k) (by omega) (by decide) dX3_book_291 (fun H locs hP hD hS => ?_)
                                    rw [nF_up] at hP hD
                                    have hP : va_P g.1 zCL (mW g ad (va_up (va_up fi_193 8 (nI 0)) 12 (nI 0)) (va_up cn_193 4 (nF (va_up (va_cpy (pbk T n).2.2.2.2 (S.2.1 4) 0 0 k) k (((pbk T n).2.2.2.2) k)))) xl) _ := hP
                                    have hD : va_D (mA ad s.heap.size) (mW g ad (va_up (va_up fi_193 8 (nI 0)) 12 (nI 0)) (va_up cn_193 4 (nF (va_up (va_cpy (pbk T n).2.2.2.2 (S.2.1 4) 0 0 k) k (((pbk T n).2.2.2.2) k)))) xl) := hD
                                    refine lv_iinc (v := nI (k + 1)) (lv' := [(1, .int (nI (k + 1))), (0, .ref (ad 0))]) hx hb dX3_book_292 hl (k := 1) rfl (nI_add k 1) (by decide) rfl (fun ls hl => ?_)
                                    refine lv_goto (tgt := 274) hx hb dX3_book_295 (by decide) ?_
                                    rw [show va_up (va_cpy (pbk T n).2.2.2.2 (S.2.1 4) 0 0 k) k ((pbk T n).2.2.2.2 k) = va_cpy (pbk T n).2.2.2.2 (S.2.1 4) 0 0 (k + 1) by have h9 := zcpy_s (pbk T n).2.2.2.2 (S.2.1 4) 0 0 k; rw [Nat.zero_add] at h9; exact h9] at hP hD
                                    exact ih_274 (by omega) _ _ _ _ _ ⟨rfl, rfl, hP, hD, hS, lv_sub hl [1, 0] rfl⟩
                                · rw [mW_up (cn := cn_193) (k := 4) (f := nF (va_cpy (pbk T n).2.2.2.2 (S.2.1 4) 0 0 0)) (by rw [zcpy_0]; exact (hcr_R239 4 (by decide)).trans hc4)] at hP
                                  rw [mW_up (cn := cn_193) (k := 4) (f := nF (va_cpy (pbk T n).2.2.2.2 (S.2.1 4) 0 0 0)) (by rw [zcpy_0]; exact (hcr_R239 4 (by decide)).trans hc4)] at hD
                                  have hP : va_P g.1 zCL (mW g ad (va_up (va_up fi_193 8 (nI 0)) 12 (nI 0)) (va_up cn_193 4 (nF (va_cpy (pbk T n).2.2.2.2 (S.2.1 4) 0 0 0))) xl) _ := hP
                                  have hD : va_D (mA ad s.heap.size) (mW g ad (va_up (va_up fi_193 8 (nI 0)) 12 (nI 0)) (va_up cn_193 4 (nF (va_cpy (pbk T n).2.2.2.2 (S.2.1 4) 0 0 0))) xl) := hD
                                  exact ⟨rfl, rfl, hP, hD, hS, lv_sub hl [1, 0] rfl⟩
                              · refine lv_aload_n hx hb dX3_book_251 rfl (lv_at hl 0 rfl) ?_
                                refine lv_aload_n hx hb dX3_book_252 rfl (lv_at hl 0 rfl) ?_
                                refine va_get (D := g.1) (ci := 3) (v := .int (fi_193 17)) (C := RX3) (T := TX3) (N := 30) hx hb hts in_X3 hown hK hP 0 rfl rfl 17 (by decide) (hts _ q1314) (fun _ h9 => h9) rfl dX3_book_253 ?_
                                refine zti (hq17_R239) ?_
                                refine va_put (D := g.1) (ci := 3) (v := .int (nI ((pbk T n).2.1))) (ty := .int) (C := RX3) (T := TX3) (N := 30) hx hb hts in_X3 tyX3 tyX3_ok nmX3 hown hK hP hD hS 0 rfl rfl 19 (by decide) (hts _ q1316) (fun _ h9 => h9) rfl (by decide +kernel) rfl rfl (Nat.le_of_ble_eq_true rfl) dX3_book_256 (fun H locs hP hD hS => ?_)
                                have hP : va_P g.1 zCL (mW g ad (va_up (va_up fi_193 12 (nI 0)) 19 (nI ((pbk T n).2.1))) cn_193 xl) _ := hP
                                have hD : va_D (mA ad s.heap.size) (mW g ad (va_up (va_up fi_193 12 (nI 0)) 19 (nI ((pbk T n).2.1))) cn_193 xl) := hD
                                refine lv_ldc hx hb hown (hts _ q1466) dX3_book_259 ?_
                                refine lv_aload_n hx hb dX3_book_261 rfl (lv_at hl 0 rfl) ?_
                                refine va_get (D := g.1) (ci := 3) (v := .int (fi_193 18)) (C := RX3) (T := TX3) (N := 30) hx hb hts in_X3 hown hK hP 0 rfl rfl 18 (by decide) (hts _ q1315) (fun _ h9 => h9) rfl dX3_book_262 ?_
                                refine lv_isub hx hb dX3_book_265 ?_
                                exact W.iret (v := (-1000100) - (fi_193 18)) hx hb hr (fun t ht hW => ⟨⟨(-1000100) - (fi_193 18), (va_up (va_up fi_193 12 (nI 0)) 19 (nI ((pbk T n).2.1)), cn_193, xl), rfl, (by unfold opBook; rw [hT11, hn12, zif_t c_248]; exact ⟨(congrArg (fun z => -1000100 - z) (hq18_R239 c_248)), ⟨((hfr_R239 0 (by decide)).trans hf0), ((hfr_R239 8 (by decide)).trans hf8), rfl, rfl, ((hfr_R239 29 (by decide)).trans hf29), ((hcr_R239 1 (by decide)).trans hc1), ((hcr_R239 2 (by decide)).trans hc2), ((hcr_R239 3 (by decide)).trans hc3), ((hcr_R239 4 (by decide)).trans hc4), ((hcr_R239 7 (by decide)).trans hc7), ((hcr_R239 11 (by decide)).trans hc11), ((hcr_R239 26 (by decide)).trans hc26), ((hcr_R239 27 (by decide)).trans hc27), ((hcr_R239 28 (by decide)).trans hc28)⟩, ⟨_, _, _, _, _, _, _, _, _, hq5_R239, ((hcr_R239 6 (by decide)).trans hc6), ((hcr_R239 9 (by decide)).trans hc9), ((hcr_R239 10 (by decide)).trans hc10), ((hcr_R239 24 (by decide)).trans hc24), ((hcr_R239 25 (by decide)).trans hc25), hc21, hc22, ((hfr_R239 23 (by decide)).trans hf23)⟩⟩), by rw [ht]; exact hP, hD⟩, hS.F ht⟩) hS.2.2 dX3_book_266
                            · refine lv_aload_n hx hb dX3_book_234 rfl (lv_at hl 0 rfl) ?_
                              refine lv_iconst (v := nI 4) hx hb dX3_book_235 (by decide) ?_
                              have hle_236 := hS.1
                              refine va_callv (va_runV (As := [.int (nI 4)]) (rest := []) ⟨hx, hb, hml, hown, hts⟩ (m_X3_bad l g ad fi_193 cn_193 xl _ T n (pbk3 T n) (show PF T n (pbk3 T n) fi_193 cn_193 from ⟨hq13_R213, hq14_R213, hq15_R213, hq16_R213, hq17_R213, hq18_R213, hq20_R213, hq5_R213, hq12_R213, hq11_R213⟩) hO_R213 4 (by decide)) (cwV 1 hts (lw_V q1442 q1444 qs34 q69 q1445) rfl rfl rfl hdV_X3_bad ⟨Nat.le_of_ble_eq_true rfl, Nat.le_of_ble_eq_true rfl⟩) (zpreV hK hN (va_recv hK hP (ci := 3) (q0 := 0) rfl rfl) ⟨rfl, hP, hD.weaken (fun _ _ _ _ => trivial)⟩) rfl rfl hl.1 rfl (lv_room (Nat.le_of_ble_eq_true rfl)) dX3_book_236 ⟨Nat.le_of_ble_eq_true rfl, Nat.le_of_ble_eq_true rfl⟩) hS (fun q _ h => mA_le hS.1 q h) (mA_le hS.1) (fun u t H locs ht hvm hw_236 hB hzz hkk hS => ?_)
                              obtain ⟨hP, hD⟩ := hB
                              rw [ht] at hP
                              have hD := hD.weaken (fun _ _ _ h => mA_le hle_236 _ h)
                              obtain ⟨fi_239, cn_239, xl_239⟩ := u
                              obtain ⟨_, hPF_239, hO_239, hxl_239, hfr_239, hcr_239⟩ := hw_236
                              have hxl_239 : xl = xl_239 := hxl_239.symm
                              subst hxl_239
                              have hPF_239 : PF T n (pbad 4 (pbk3 T n)) fi_239 cn_239 := hPF_239
                              have hO_239 : PO T n (pbad 4 (pbk3 T n)) := hO_239
                              have ho__239 := hO_239
                              obtain ⟨ho1_239, _, _, ho4_239, ho16_239, hoF_239⟩ := ho__239
                              have he13_239 := tkE_le (T := T) ho1_239
                              have hk15_239 := tkK_le T n (pbad 4 (pbk3 T n)).1
                              obtain ⟨hq13_239, hq14_239, hq15_239, hq16_239, hq17_239, hq18_239, hq20_239, hq5_239, hq12_239, hq11_239⟩ := hPF_239
                              have hfr_239 : ∀ k, (k < 13 ∨ 20 < k ∨ k = 19) → fi_239 k = fi k := fun k hk => (hfr_239 k hk).trans (hfr_R213 k hk)
                              have hcr_239 : ∀ k, k ≠ 5 → cn_239 k = cn k := fun k hk => (hcr_239 k hk).trans (hcr_R213 k hk)
                              have hP : va_P g.1 zCL (mW g ad fi_239 cn_239 xl) _ := hP
                              have hD : va_D (mA ad s.heap.size) (mW g ad fi_239 cn_239 xl) := hD
                              have hPF_R239 : PF T n (pbk T n) fi_239 cn_239 := (by rw [show pbk T n = pbad 4 (pbk3 T n) from zif_f c_231]; exact ⟨hq13_239, hq14_239, hq15_239, hq16_239, hq17_239, hq18_239, hq20_239, hq5_239, hq12_239, hq11_239⟩)
                              have hO_R239 : PO T n (pbk T n) := (by rw [show pbk T n = pbad 4 (pbk3 T n) from zif_f c_231]; exact hO_239)
                              have ho__R239 := hO_R239
                              obtain ⟨ho1_R239, _, _, ho4_R239, ho16_R239, hoF_R239⟩ := ho__R239
                              have he13_R239 := tkE_le (T := T) ho1_R239
                              have hk15_R239 := tkK_le T n (pbk T n).1
                              obtain ⟨hq13_R239, hq14_R239, hq15_R239, hq16_R239, hq17_R239, hq18_R239, hq20_R239, hq5_R239, hq12_R239, hq11_R239⟩ := hPF_R239
                              have hfr_R239 := hfr_239
                              have hcr_R239 := hcr_239
                              refine lv_aload_n hx hb dX3_book_239 rfl (lv_at hl 0 rfl) ?_
                              refine lv_iconst (v := nI 0) hx hb dX3_book_240 (by decide) ?_
                              refine va_put (D := g.1) (ci := 3) (v := .int (nI 0)) (ty := .int) (C := RX3) (T := TX3) (N := 30) hx hb hts in_X3 tyX3 tyX3_ok nmX3 hown hK hP hD hS 0 rfl rfl 12 (by decide) (hts _ q1309) (fun _ h9 => h9) rfl (by decide +kernel) rfl rfl (Nat.le_of_ble_eq_true rfl) dX3_book_241 (fun H locs hP hD hS => ?_)
                              have hP : va_P g.1 zCL (mW g ad (va_up fi_239 12 (nI 0)) cn_239 xl) _ := hP
                              have hD : va_D (mA ad s.heap.size) (mW g ad (va_up fi_239 12 (nI 0)) cn_239 xl) := hD
                              refine lv_aload_n hx hb dX3_book_244 rfl (lv_at hl 0 rfl) ?_
                              refine va_get (D := g.1) (ci := 3) (v := .int (fi_239 17)) (C := RX3) (T := TX3) (N := 30) hx hb hts in_X3 hown hK hP 0 rfl rfl 17 (by decide) (hts _ q1314) (fun _ h9 => h9) rfl dX3_book_245 ?_
                              refine zti (hq17_R239) ?_
                              refine zi_le (tgt := 267) hx hb (by omega) dX3_book_248 (by decide) (fun c_248 => ?_) (fun c_248 => ?_)
                              · refine lv_aload_n hx hb dX3_book_267 rfl (lv_at hl 0 rfl) ?_
                                refine lv_iconst (v := nI 0) hx hb dX3_book_268 (by decide) ?_
                                refine va_put (D := g.1) (ci := 3) (v := .int (nI 0)) (ty := .int) (C := RX3) (T := TX3) (N := 30) hx hb hts in_X3 tyX3 tyX3_ok nmX3 hown hK hP hD hS 0 rfl rfl 8 (by decide) (hts _ q1305) (fun _ h9 => h9) rfl (by decide +kernel) rfl rfl (Nat.le_of_ble_eq_true rfl) dX3_book_269 (fun H locs hP hD hS => ?_)
                                have hP : va_P g.1 zCL (mW g ad (va_up (va_up fi_239 8 (nI 0)) 12 (nI 0)) cn_239 xl) _ := hP
                                have hD : va_D (mA ad s.heap.size) (mW g ad (va_up (va_up fi_239 8 (nI 0)) 12 (nI 0)) cn_239 xl) := hD
                                refine lv_iconst (v := nI 0) hx hb dX3_book_272 (by decide) ?_
                                refine lv_istore_n (lv' := [(1, .int (nI 0)), (0, .ref (ad 0))]) hx hb dX3_book_273 rfl hl (by decide) rfl (fun ls hl => ?_)
                                refine zloopW (head := 274) (44) (fun k H locs cells slots ls => cells = 0 ∧ slots = 0 ∧ va_P g.1 zCL (mW g ad (va_up (va_up fi_239 8 (nI 0)) 12 (nI 0)) (va_up cn_239 4 (nF (va_cpy (pbk T n).2.2.2.2 (S.2.1 4) 0 0 k))) xl) H ∧ va_D (mA ad s.heap.size) (mW g ad (va_up (va_up fi_239 8 (nI 0)) 12 (nI 0)) (va_up cn_239 4 (nF (va_cpy (pbk T n).2.2.2.2 (S.2.1 4) 0 0 k))) xl) ∧ va_S (mA ad s.heap.size) s.heap H locs ∧ lv_has ls 2 [(0, .ref (ad 0)), (1, .int (nI k))]) (fun k hv_k ih_274 H locs cells slots ls hI => ?_) 0 (Nat.zero_le _) ?_
                                · obtain ⟨rfl, rfl, hP, hD, hS, hl⟩ := hI
                                  refine lv_iload_n hx hb dX3_book_274 rfl (lv_at hl 1 rfl) ?_
                                  refine lv_bipush (v := nI 44) hx hb dX3_book_275 (by decide) ?_
                                  refine zc_ge (tgt := 298) hx hb (by omega) (by omega) dX3_book_277 (by decide) (fun c_277 => ?_) (fun c_277 => ?_)
                                  · obtain rfl : 44 = k := by omega
                                    obtain ⟨hP, hD⟩ := hP.exi hD 4 (f' := nF (pbk T n).2.2.2.2) rfl (fun j hj => by show nI (va_cpy _ _ 0 0 44 j) = nI ((pbk T n).2.2.2.2 j); rw [zcpy_in (by omega) (by omega)]; rw [Nat.zero_add, Nat.sub_zero])
                                    have hP : va_P g.1 zCL (mW g ad (va_up (va_up fi_239 8 (nI 0)) 12 (nI 0)) (va_up cn_239 4 (nF (pbk T n).2.2.2.2)) xl) _ := hP
                                    have hD : va_D (mA ad s.heap.size) (mW g ad (va_up (va_up fi_239 8 (nI 0)) 12 (nI 0)) (va_up cn_239 4 (nF (pbk T n).2.2.2.2)) xl) := hD
                                    refine lv_aload_n hx hb dX3_book_298 rfl (lv_at hl 0 rfl) ?_
                                    refine va_get (D := g.1) (ci := 3) (v := .ref (ad 4)) (C := RX3) (T := TX3) (N := 30) hx hb hts in_X3 hown hK hP 0 rfl rfl 4 (by decide) (hts _ q1301) (fun _ h9 => h9) rfl dX3_book_299 ?_
                                    refine lv_iconst (v := nI 0) hx hb dX3_book_302 (by decide) ?_
                                    refine zald hx hb hK hP 4 0 rfl rfl (j := 0) (by omega) (by decide) dX3_book_303 ?_
                                    refine zti (show (nF ((pbk T n).2.2.2.2)) 0 = nI (((pbk T n).2.2.2.2) 0) from rfl) ?_
                                    exact W.iret (v := nI (((pbk T n).2.2.2.2) 0)) hx hb hr (fun t ht hW => ⟨⟨nI (((pbk T n).2.2.2.2) 0), (va_up (va_up fi_239 8 (nI 0)) 12 (nI 0), va_up cn_239 4 (nF (pbk T n).2.2.2.2), xl), rfl, (by unfold opBook; rw [hT11, hn12, zif_f c_248]; exact ⟨rfl, ⟨((hfr_R239 0 (by decide)).trans hf0), rfl, rfl, ((hfr_R239 19 (by decide)).trans hf19), ((hfr_R239 29 (by decide)).trans hf29), ((hcr_R239 1 (by decide)).trans hc1), ((hcr_R239 2 (by decide)).trans hc2), ((hcr_R239 3 (by decide)).trans hc3), rfl, ((hcr_R239 7 (by decide)).trans hc7), ((hcr_R239 11 (by decide)).trans hc11), ((hcr_R239 26 (by decide)).trans hc26), ((hcr_R239 27 (by decide)).trans hc27), ((hcr_R239 28 (by decide)).trans hc28)⟩, ⟨_, _, _, _, _, _, _, _, _, hq5_R239, ((hcr_R239 6 (by decide)).trans hc6), ((hcr_R239 9 (by decide)).trans hc9), ((hcr_R239 10 (by decide)).trans hc10), ((hcr_R239 24 (by decide)).trans hc24), ((hcr_R239 25 (by decide)).trans hc25), hc21, hc22, ((hfr_R239 23 (by decide)).trans hf23)⟩⟩), by rw [ht]; exact hP, hD⟩, hS.F ht⟩) hS.2.2 dX3_book_304
                                  · refine lv_aload_n hx hb dX3_book_280 rfl (lv_at hl 0 rfl) ?_
                                    refine va_get (D := g.1) (ci := 3) (v := .ref (ad 4)) (C := RX3) (T := TX3) (N := 30) hx hb hts in_X3 hown hK hP 0 rfl rfl 4 (by decide) (hts _ q1301) (fun _ h9 => h9) rfl dX3_book_281 ?_
                                    refine lv_iload_n hx hb dX3_book_284 rfl (lv_at hl 1 rfl) ?_
                                    refine lv_aload_n hx hb dX3_book_285 rfl (lv_at hl 0 rfl) ?_
                                    refine va_get (D := g.1) (ci := 3) (v := .ref (ad 5)) (C := RX3) (T := TX3) (N := 30) hx hb hts in_X3 hown hK hP 0 rfl rfl 5 (by decide) (hts _ q1302) (fun _ h9 => h9) rfl dX3_book_286 ?_
                                    refine lv_iload_n hx hb dX3_book_289 rfl (lv_at hl 1 rfl) ?_
                                    refine zald hx hb hK hP 5 0 rfl rfl (j := k) (by omega) (by decide) dX3_book_290 ?_
                                    refine zti (congrFun hq5_R239 _) ?_
                                    refine zti (show (nF ((pbk T n).2.2.2.2)) k = nI (((pbk T n).2.2.2.2) k) from rfl) ?_
                                    refine zast (f := nF (va_cpy (pbk T n).2.2.2.2 (S.2.1 4) 0 0 k)) hx hb hK hP hD hS 4 0 rfl rfl (j := k) (by omega) (by decide) dX3_book_291 (fun H locs hP hD hS => ?_)
                                    rw [nF_up] at hP hD
                                    have hP : va_P g.1 zCL (mW g ad (va_up (va_up fi_239 8 (nI 0)) 12 (nI 0)) (va_up cn_239 4 (nF (va_up (va_cpy (pbk T n).2.2.2.2 (S.2.1 4) 0 0 k) k (((pbk T n).2.2.2.2) k)))) xl) _ := hP
                                    have hD : va_D (mA ad s.heap.size) (mW g ad (va_up (va_up fi_239 8 (nI 0)) 12 (nI 0)) (va_up cn_239 4 (nF (va_up (va_cpy (pbk T n).2.2.2.2 (S.2.1 4) 0 0 k) k (((pbk T n).2.2.2.2) k)))) xl) := hD
                                    refine lv_iinc (v := nI (k + 1)) (lv' := [(1, .int (nI (k + 1))), (0, .ref (ad 0))]) hx hb dX3_book_292 hl (k := 1) rfl (nI_add k 1) (by decide) rfl (fun ls hl => ?_)
                                    refine lv_goto (tgt := 274) hx hb dX3_book_295 (by decide) ?_
                                    rw [show va_up (va_cpy (pbk T n).2.2.2.2 (S.2.1 4) 0 0 k) k ((pbk T n).2.2.2.2 k) = va_cpy (pbk T n).2.2.2.2 (S.2.1 4) 0 0 (k + 1) by have h9 := zcpy_s (pbk T n).2.2.2.2 (S.2.1 4) 0 0 k; rw [Nat.zero_add] at h9; exact h9] at hP hD
                                    exact ih_274 (by omega) _ _ _ _ _ ⟨rfl, rfl, hP, hD, hS, lv_sub hl [1, 0] rfl⟩
                                · rw [mW_up (cn := cn_239) (k := 4) (f := nF (va_cpy (pbk T n).2.2.2.2 (S.2.1 4) 0 0 0)) (by rw [zcpy_0]; exact (hcr_R239 4 (by decide)).trans hc4)] at hP
                                  rw [mW_up (cn := cn_239) (k := 4) (f := nF (va_cpy (pbk T n).2.2.2.2 (S.2.1 4) 0 0 0)) (by rw [zcpy_0]; exact (hcr_R239 4 (by decide)).trans hc4)] at hD
                                  have hP : va_P g.1 zCL (mW g ad (va_up (va_up fi_239 8 (nI 0)) 12 (nI 0)) (va_up cn_239 4 (nF (va_cpy (pbk T n).2.2.2.2 (S.2.1 4) 0 0 0))) xl) _ := hP
                                  have hD : va_D (mA ad s.heap.size) (mW g ad (va_up (va_up fi_239 8 (nI 0)) 12 (nI 0)) (va_up cn_239 4 (nF (va_cpy (pbk T n).2.2.2.2 (S.2.1 4) 0 0 0))) xl) := hD
                                  exact ⟨rfl, rfl, hP, hD, hS, lv_sub hl [1, 0] rfl⟩
                              · refine lv_aload_n hx hb dX3_book_251 rfl (lv_at hl 0 rfl) ?_
                                refine lv_aload_n hx hb dX3_book_252 rfl (lv_at hl 0 rfl) ?_
                                refine va_get (D := g.1) (ci := 3) (v := .int (fi_239 17)) (C := RX3) (T := TX3) (N := 30) hx hb hts in_X3 hown hK hP 0 rfl rfl 17 (by decide) (hts _ q1314) (fun _ h9 => h9) rfl dX3_book_253 ?_
                                refine zti (hq17_R239) ?_
                                refine va_put (D := g.1) (ci := 3) (v := .int (nI ((pbk T n).2.1))) (ty := .int) (C := RX3) (T := TX3) (N := 30) hx hb hts in_X3 tyX3 tyX3_ok nmX3 hown hK hP hD hS 0 rfl rfl 19 (by decide) (hts _ q1316) (fun _ h9 => h9) rfl (by decide +kernel) rfl rfl (Nat.le_of_ble_eq_true rfl) dX3_book_256 (fun H locs hP hD hS => ?_)
                                have hP : va_P g.1 zCL (mW g ad (va_up (va_up fi_239 12 (nI 0)) 19 (nI ((pbk T n).2.1))) cn_239 xl) _ := hP
                                have hD : va_D (mA ad s.heap.size) (mW g ad (va_up (va_up fi_239 12 (nI 0)) 19 (nI ((pbk T n).2.1))) cn_239 xl) := hD
                                refine lv_ldc hx hb hown (hts _ q1466) dX3_book_259 ?_
                                refine lv_aload_n hx hb dX3_book_261 rfl (lv_at hl 0 rfl) ?_
                                refine va_get (D := g.1) (ci := 3) (v := .int (fi_239 18)) (C := RX3) (T := TX3) (N := 30) hx hb hts in_X3 hown hK hP 0 rfl rfl 18 (by decide) (hts _ q1315) (fun _ h9 => h9) rfl dX3_book_262 ?_
                                refine lv_isub hx hb dX3_book_265 ?_
                                exact W.iret (v := (-1000100) - (fi_239 18)) hx hb hr (fun t ht hW => ⟨⟨(-1000100) - (fi_239 18), (va_up (va_up fi_239 12 (nI 0)) 19 (nI ((pbk T n).2.1)), cn_239, xl), rfl, (by unfold opBook; rw [hT11, hn12, zif_t c_248]; exact ⟨(congrArg (fun z => -1000100 - z) (hq18_R239 c_248)), ⟨((hfr_R239 0 (by decide)).trans hf0), ((hfr_R239 8 (by decide)).trans hf8), rfl, rfl, ((hfr_R239 29 (by decide)).trans hf29), ((hcr_R239 1 (by decide)).trans hc1), ((hcr_R239 2 (by decide)).trans hc2), ((hcr_R239 3 (by decide)).trans hc3), ((hcr_R239 4 (by decide)).trans hc4), ((hcr_R239 7 (by decide)).trans hc7), ((hcr_R239 11 (by decide)).trans hc11), ((hcr_R239 26 (by decide)).trans hc26), ((hcr_R239 27 (by decide)).trans hc27), ((hcr_R239 28 (by decide)).trans hc28)⟩, ⟨_, _, _, _, _, _, _, _, _, hq5_R239, ((hcr_R239 6 (by decide)).trans hc6), ((hcr_R239 9 (by decide)).trans hc9), ((hcr_R239 10 (by decide)).trans hc10), ((hcr_R239 24 (by decide)).trans hc24), ((hcr_R239 25 (by decide)).trans hc25), hc21, hc22, ((hfr_R239 23 (by decide)).trans hf23)⟩⟩), by rw [ht]; exact hP, hD⟩, hS.F ht⟩) hS.2.2 dX3_book_266
                        · refine lv_aload_n hx hb dX3_book_208 rfl (lv_at hl 0 rfl) ?_
                          refine lv_iconst (v := nI 1) hx hb dX3_book_209 (by decide) ?_
                          have hle_210 := hS.1
                          refine va_callv (va_runV (As := [.int (nI 1)]) (rest := []) ⟨hx, hb, hml, hown, hts⟩ (m_X3_bad l g ad fi_193 cn_193 xl _ T n (pbk2 T n) (show PF T n (pbk2 T n) fi_193 cn_193 from ⟨hq13_R193, hq14_R193, hq15_R193, hq16_R193, hq17_R193, hq18_R193, hq20_R193, hq5_R193, hq12_R193, hq11_R193⟩) hO_R193 1 (by decide)) (cwV 1 hts (lw_V q1442 q1444 qs34 q69 q1445) rfl rfl rfl hdV_X3_bad ⟨Nat.le_of_ble_eq_true rfl, Nat.le_of_ble_eq_true rfl⟩) (zpreV hK hN (va_recv hK hP (ci := 3) (q0 := 0) rfl rfl) ⟨rfl, hP, hD.weaken (fun _ _ _ _ => trivial)⟩) rfl rfl hl.1 rfl (lv_room (Nat.le_of_ble_eq_true rfl)) dX3_book_210 ⟨Nat.le_of_ble_eq_true rfl, Nat.le_of_ble_eq_true rfl⟩) hS (fun q _ h => mA_le hS.1 q h) (mA_le hS.1) (fun u t H locs ht hvm hw_210 hB hzz hkk hS => ?_)
                          obtain ⟨hP, hD⟩ := hB
                          rw [ht] at hP
                          have hD := hD.weaken (fun _ _ _ h => mA_le hle_210 _ h)
                          obtain ⟨fi_213, cn_213, xl_213⟩ := u
                          obtain ⟨_, hPF_213, hO_213, hxl_213, hfr_213, hcr_213⟩ := hw_210
                          have hxl_213 : xl = xl_213 := hxl_213.symm
                          subst hxl_213
                          have hPF_213 : PF T n (pbad 1 (pbk2 T n)) fi_213 cn_213 := hPF_213
                          have hO_213 : PO T n (pbad 1 (pbk2 T n)) := hO_213
                          have ho__213 := hO_213
                          obtain ⟨ho1_213, _, _, ho4_213, ho16_213, hoF_213⟩ := ho__213
                          have he13_213 := tkE_le (T := T) ho1_213
                          have hk15_213 := tkK_le T n (pbad 1 (pbk2 T n)).1
                          obtain ⟨hq13_213, hq14_213, hq15_213, hq16_213, hq17_213, hq18_213, hq20_213, hq5_213, hq12_213, hq11_213⟩ := hPF_213
                          have hfr_213 : ∀ k, (k < 13 ∨ 20 < k ∨ k = 19) → fi_213 k = fi k := fun k hk => (hfr_213 k hk).trans (hfr_R193 k hk)
                          have hcr_213 : ∀ k, k ≠ 5 → cn_213 k = cn k := fun k hk => (hcr_213 k hk).trans (hcr_R193 k hk)
                          have hP : va_P g.1 zCL (mW g ad fi_213 cn_213 xl) _ := hP
                          have hD : va_D (mA ad s.heap.size) (mW g ad fi_213 cn_213 xl) := hD
                          have hPF_R213 : PF T n (pbk3 T n) fi_213 cn_213 := (by rw [show pbk3 T n = pbad 1 (pbk2 T n) from zif_f c_205]; exact ⟨hq13_213, hq14_213, hq15_213, hq16_213, hq17_213, hq18_213, hq20_213, hq5_213, hq12_213, hq11_213⟩)
                          have hO_R213 : PO T n (pbk3 T n) := (by rw [show pbk3 T n = pbad 1 (pbk2 T n) from zif_f c_205]; exact hO_213)
                          have ho__R213 := hO_R213
                          obtain ⟨ho1_R213, _, _, ho4_R213, ho16_R213, hoF_R213⟩ := ho__R213
                          have he13_R213 := tkE_le (T := T) ho1_R213
                          have hk15_R213 := tkK_le T n (pbk3 T n).1
                          obtain ⟨hq13_R213, hq14_R213, hq15_R213, hq16_R213, hq17_R213, hq18_R213, hq20_R213, hq5_R213, hq12_R213, hq11_R213⟩ := hPF_R213
                          have hfr_R213 := hfr_213
                          have hcr_R213 := hcr_213
                          refine lv_aload_n hx hb dX3_book_213 rfl (lv_at hl 0 rfl) ?_
                          refine va_get (D := g.1) (ci := 3) (v := .int (fi_213 17)) (C := RX3) (T := TX3) (N := 30) hx hb hts in_X3 hown hK hP 0 rfl rfl 17 (by decide) (hts _ q1314) (fun _ h9 => h9) rfl dX3_book_214 ?_
                          refine zti (hq17_R213) ?_
                          refine zi_ne (tgt := 239) hx hb (by omega) dX3_book_217 (by decide) (fun c_217 => ?_) (fun c_217 => ?_)
                          · have hPF_R239 : PF T n (pbk T n) fi_213 cn_213 := (by rw [show pbk T n = pbk3 T n from zif_same (pbad_id c_217)]; exact ⟨hq13_R213, hq14_R213, hq15_R213, hq16_R213, hq17_R213, hq18_R213, hq20_R213, hq5_R213, hq12_R213, hq11_R213⟩)
                            have hO_R239 : PO T n (pbk T n) := (by rw [show pbk T n = pbk3 T n from zif_same (pbad_id c_217)]; exact hO_R213)
                            have ho__R239 := hO_R239
                            obtain ⟨ho1_R239, _, _, ho4_R239, ho16_R239, hoF_R239⟩ := ho__R239
                            have he13_R239 := tkE_le (T := T) ho1_R239
                            have hk15_R239 := tkK_le T n (pbk T n).1
                            obtain ⟨hq13_R239, hq14_R239, hq15_R239, hq16_R239, hq17_R239, hq18_R239, hq20_R239, hq5_R239, hq12_R239, hq11_R239⟩ := hPF_R239
                            have hfr_R239 := hfr_R213
                            have hcr_R239 := hcr_R213
                            refine lv_aload_n hx hb dX3_book_239 rfl (lv_at hl 0 rfl) ?_
                            refine lv_iconst (v := nI 0) hx hb dX3_book_240 (by decide) ?_
                            refine va_put (D := g.1) (ci := 3) (v := .int (nI 0)) (ty := .int) (C := RX3) (T := TX3) (N := 30) hx hb hts in_X3 tyX3 tyX3_ok nmX3 hown hK hP hD hS 0 rfl rfl 12 (by decide) (hts _ q1309) (fun _ h9 => h9) rfl (by decide +kernel) rfl rfl (Nat.le_of_ble_eq_true rfl) dX3_book_241 (fun H locs hP hD hS => ?_)
                            have hP : va_P g.1 zCL (mW g ad (va_up fi_213 12 (nI 0)) cn_213 xl) _ := hP
                            have hD : va_D (mA ad s.heap.size) (mW g ad (va_up fi_213 12 (nI 0)) cn_213 xl) := hD
                            refine lv_aload_n hx hb dX3_book_244 rfl (lv_at hl 0 rfl) ?_
                            refine va_get (D := g.1) (ci := 3) (v := .int (fi_213 17)) (C := RX3) (T := TX3) (N := 30) hx hb hts in_X3 hown hK hP 0 rfl rfl 17 (by decide) (hts _ q1314) (fun _ h9 => h9) rfl dX3_book_245 ?_
                            refine zti (hq17_R239) ?_
                            refine zi_le (tgt := 267) hx hb (by omega) dX3_book_248 (by decide) (fun c_248 => ?_) (fun c_248 => ?_)
                            · refine lv_aload_n hx hb dX3_book_267 rfl (lv_at hl 0 rfl) ?_
                              refine lv_iconst (v := nI 0) hx hb dX3_book_268 (by decide) ?_
                              refine va_put (D := g.1) (ci := 3) (v := .int (nI 0)) (ty := .int) (C := RX3) (T := TX3) (N := 30) hx hb hts in_X3 tyX3 tyX3_ok nmX3 hown hK hP hD hS 0 rfl rfl 8 (by decide) (hts _ q1305) (fun _ h9 => h9) rfl (by decide +kernel) rfl rfl (Nat.le_of_ble_eq_true rfl) dX3_book_269 (fun H locs hP hD hS => ?_)
                              have hP : va_P g.1 zCL (mW g ad (va_up (va_up fi_213 8 (nI 0)) 12 (nI 0)) cn_213 xl) _ := hP
                              have hD : va_D (mA ad s.heap.size) (mW g ad (va_up (va_up fi_213 8 (nI 0)) 12 (nI 0)) cn_213 xl) := hD
                              refine lv_iconst (v := nI 0) hx hb dX3_book_272 (by decide) ?_
                              refine lv_istore_n (lv' := [(1, .int (nI 0)), (0, .ref (ad 0))]) hx hb dX3_book_273 rfl hl (by decide) rfl (fun ls hl => ?_)
                              refine zloopW (head := 274) (44) (fun k H locs cells slots ls => cells = 0 ∧ slots = 0 ∧ va_P g.1 zCL (mW g ad (va_up (va_up fi_213 8 (nI 0)) 12 (nI 0)) (va_up cn_213 4 (nF (va_cpy (pbk T n).2.2.2.2 (S.2.1 4) 0 0 k))) xl) H ∧ va_D (mA ad s.heap.size) (mW g ad (va_up (va_up fi_213 8 (nI 0)) 12 (nI 0)) (va_up cn_213 4 (nF (va_cpy (pbk T n).2.2.2.2 (S.2.1 4) 0 0 k))) xl) ∧ va_S (mA ad s.heap.size) s.heap H locs ∧ lv_has ls 2 [(0, .ref (ad 0)), (1, .int (nI k))]) (fun k hv_k ih_274 H locs cells slots ls hI => ?_) 0 (Nat.zero_le _) ?_
                              · obtain ⟨rfl, rfl, hP, hD, hS, hl⟩ := hI
                                refine lv_iload_n hx hb dX3_book_274 rfl (lv_at hl 1 rfl) ?_
                                refine lv_bipush (v := nI 44) hx hb dX3_book_275 (by decide) ?_
                                refine zc_ge (tgt := 298) hx hb (by omega) (by omega) dX3_book_277 (by decide) (fun c_277 => ?_) (fun c_277 => ?_)
                                · obtain rfl : 44 = k := by omega
                                  obtain ⟨hP, hD⟩ := hP.exi hD 4 (f' := nF (pbk T n).2.2.2.2) rfl (fun j hj => by show nI (va_cpy _ _ 0 0 44 j) = nI ((pbk T n).2.2.2.2 j); rw [zcpy_in (by omega) (by omega)]; rw [Nat.zero_add, Nat.sub_zero])
                                  have hP : va_P g.1 zCL (mW g ad (va_up (va_up fi_213 8 (nI 0)) 12 (nI 0)) (va_up cn_213 4 (nF (pbk T n).2.2.2.2)) xl) _ := hP
                                  have hD : va_D (mA ad s.heap.size) (mW g ad (va_up (va_up fi_213 8 (nI 0)) 12 (nI 0)) (va_up cn_213 4 (nF (pbk T n).2.2.2.2)) xl) := hD
                                  refine lv_aload_n hx hb dX3_book_298 rfl (lv_at hl 0 rfl) ?_
                                  refine va_get (D := g.1) (ci := 3) (v := .ref (ad 4)) (C := RX3) (T := TX3) (N := 30) hx hb hts in_X3 hown hK hP 0 rfl rfl 4 (by decide) (hts _ q1301) (fun _ h9 => h9) rfl dX3_book_299 ?_
                                  refine lv_iconst (v := nI 0) hx hb dX3_book_302 (by decide) ?_
                                  refine zald hx hb hK hP 4 0 rfl rfl (j := 0) (by omega) (by decide) dX3_book_303 ?_
                                  refine zti (show (nF ((pbk T n).2.2.2.2)) 0 = nI (((pbk T n).2.2.2.2) 0) from rfl) ?_
                                  exact W.iret (v := nI (((pbk T n).2.2.2.2) 0)) hx hb hr (fun t ht hW => ⟨⟨nI (((pbk T n).2.2.2.2) 0), (va_up (va_up fi_213 8 (nI 0)) 12 (nI 0), va_up cn_213 4 (nF (pbk T n).2.2.2.2), xl), rfl, (by unfold opBook; rw [hT11, hn12, zif_f c_248]; exact ⟨rfl, ⟨((hfr_R239 0 (by decide)).trans hf0), rfl, rfl, ((hfr_R239 19 (by decide)).trans hf19), ((hfr_R239 29 (by decide)).trans hf29), ((hcr_R239 1 (by decide)).trans hc1), ((hcr_R239 2 (by decide)).trans hc2), ((hcr_R239 3 (by decide)).trans hc3), rfl, ((hcr_R239 7 (by decide)).trans hc7), ((hcr_R239 11 (by decide)).trans hc11), ((hcr_R239 26 (by decide)).trans hc26), ((hcr_R239 27 (by decide)).trans hc27), ((hcr_R239 28 (by decide)).trans hc28)⟩, ⟨_, _, _, _, _, _, _, _, _, hq5_R239, ((hcr_R239 6 (by decide)).trans hc6), ((hcr_R239 9 (by decide)).trans hc9), ((hcr_R239 10 (by decide)).trans hc10), ((hcr_R239 24 (by decide)).trans hc24), ((hcr_R239 25 (by decide)).trans hc25), hc21, hc22, ((hfr_R239 23 (by decide)).trans hf23)⟩⟩), by rw [ht]; exact hP, hD⟩, hS.F ht⟩) hS.2.2 dX3_book_304
                                · refine lv_aload_n hx hb dX3_book_280 rfl (lv_at hl 0 rfl) ?_
                                  refine va_get (D := g.1) (ci := 3) (v := .ref (ad 4)) (C := RX3) (T := TX3) (N := 30) hx hb hts in_X3 hown hK hP 0 rfl rfl 4 (by decide) (hts _ q1301) (fun _ h9 => h9) rfl dX3_book_281 ?_
                                  refine lv_iload_n hx hb dX3_book_284 rfl (lv_at hl 1 rfl) ?_
                                  refine lv_aload_n hx hb dX3_book_285 rfl (lv_at hl 0 rfl) ?_
                                  refine va_get (D := g.1) (ci := 3) (v := .ref (ad 5)) (C := RX3) (T := TX3) (N := 30) hx hb hts in_X3 hown hK hP 0 rfl rfl 5 (by decide) (hts _ q1302) (fun _ h9 => h9) rfl dX3_book_286 ?_
                                  refine lv_iload_n hx hb dX3_book_289 rfl (lv_at hl 1 rfl) ?_
                                  refine zald hx hb hK hP 5 0 rfl rfl (j := k) (by omega) (by decide) dX3_book_290 ?_
                                  refine zti (congrFun hq5_R239 _) ?_
                                  refine zti (show (nF ((pbk T n).2.2.2.2)) k = nI (((pbk T n).2.2.2.2) k) from rfl) ?_
                                  refine zast (f := nF (va_cpy (pbk T n).2.2.2.2 (S.2.1 4) 0 0 k)) hx hb hK hP hD hS 4 0 rfl rfl (j := k) (by omega) (by decide) dX3_book_291 (fun H locs hP hD hS => ?_)
                                  rw [nF_up] at hP hD
                                  have hP : va_P g.1 zCL (mW g ad (va_up (va_up fi_213 8 (nI 0)) 12 (nI 0)) (va_up cn_213 4 (nF (va_up (va_cpy (pbk T n).2.2.2.2 (S.2.1 4) 0 0 k) k (((pbk T n).2.2.2.2) k)))) xl) _ := hP
                                  have hD : va_D (mA ad s.heap.size) (mW g ad (va_up (va_up fi_213 8 (nI 0)) 12 (nI 0)) (va_up cn_213 4 (nF (va_up (va_cpy (pbk T n).2.2.2.2 (S.2.1 4) 0 0 k) k (((pbk T n).2.2.2.2) k)))) xl) := hD
                                  refine lv_iinc (v := nI (k + 1)) (lv' := [(1, .int (nI (k + 1))), (0, .ref (ad 0))]) hx hb dX3_book_292 hl (k := 1) rfl (nI_add k 1) (by decide) rfl (fun ls hl => ?_)
                                  refine lv_goto (tgt := 274) hx hb dX3_book_295 (by decide) ?_
                                  rw [show va_up (va_cpy (pbk T n).2.2.2.2 (S.2.1 4) 0 0 k) k ((pbk T n).2.2.2.2 k) = va_cpy (pbk T n).2.2.2.2 (S.2.1 4) 0 0 (k + 1) by have h9 := zcpy_s (pbk T n).2.2.2.2 (S.2.1 4) 0 0 k; rw [Nat.zero_add] at h9; exact h9] at hP hD
                                  exact ih_274 (by omega) _ _ _ _ _ ⟨rfl, rfl, hP, hD, hS, lv_sub hl [1, 0] rfl⟩
                              · rw [mW_up (cn := cn_213) (k := 4) (f := nF (va_cpy (pbk T n).2.2.2.2 (S.2.1 4) 0 0 0)) (by rw [zcpy_0]; exact (hcr_R239 4 (by decide)).trans hc4)] at hP
                                rw [mW_up (cn := cn_213) (k := 4) (f := nF (va_cpy (pbk T n).2.2.2.2 (S.2.1 4) 0 0 0)) (by rw [zcpy_0]; exact (hcr_R239 4 (by decide)).trans hc4)] at hD
                                have hP : va_P g.1 zCL (mW g ad (va_up (va_up fi_213 8 (nI 0)) 12 (nI 0)) (va_up cn_213 4 (nF (va_cpy (pbk T n).2.2.2.2 (S.2.1 4) 0 0 0))) xl) _ := hP
                                have hD : va_D (mA ad s.heap.size) (mW g ad (va_up (va_up fi_213 8 (nI 0)) 12 (nI 0)) (va_up cn_213 4 (nF (va_cpy (pbk T n).2.2.2.2 (S.2.1 4) 0 0 0))) xl) := hD
                                exact ⟨rfl, rfl, hP, hD, hS, lv_sub hl [1, 0] rfl⟩
                            · refine lv_aload_n hx hb dX3_book_251 rfl (lv_at hl 0 rfl) ?_
                              refine lv_aload_n hx hb dX3_book_252 rfl (lv_at hl 0 rfl) ?_
                              refine va_get (D := g.1) (ci := 3) (v := .int (fi_213 17)) (C := RX3) (T := TX3) (N := 30) hx hb hts in_X3 hown hK hP 0 rfl rfl 17 (by decide) (hts _ q1314) (fun _ h9 => h9) rfl dX3_book_253 ?_
                              refine zti (hq17_R239) ?_
                              refine va_put (D := g.1) (ci := 3) (v := .int (nI ((pbk T n).2.1))) (ty := .int) (C := RX3) (T := TX3) (N := 30) hx hb hts in_X3 tyX3 tyX3_ok nmX3 hown hK hP hD hS 0 rfl rfl 19 (by decide) (hts _ q1316) (fun _ h9 => h9) rfl (by decide +kernel) rfl rfl (Nat.le_of_ble_eq_true rfl) dX3_book_256 (fun H locs hP hD hS => ?_)
                              have hP : va_P g.1 zCL (mW g ad (va_up (va_up fi_213 12 (nI 0)) 19 (nI ((pbk T n).2.1))) cn_213 xl) _ := hP
                              have hD : va_D (mA ad s.heap.size) (mW g ad (va_up (va_up fi_213 12 (nI 0)) 19 (nI ((pbk T n).2.1))) cn_213 xl) := hD
                              refine lv_ldc hx hb hown (hts _ q1466) dX3_book_259 ?_
                              refine lv_aload_n hx hb dX3_book_261 rfl (lv_at hl 0 rfl) ?_
                              refine va_get (D := g.1) (ci := 3) (v := .int (fi_213 18)) (C := RX3) (T := TX3) (N := 30) hx hb hts in_X3 hown hK hP 0 rfl rfl 18 (by decide) (hts _ q1315) (fun _ h9 => h9) rfl dX3_book_262 ?_
                              refine lv_isub hx hb dX3_book_265 ?_
                              exact W.iret (v := (-1000100) - (fi_213 18)) hx hb hr (fun t ht hW => ⟨⟨(-1000100) - (fi_213 18), (va_up (va_up fi_213 12 (nI 0)) 19 (nI ((pbk T n).2.1)), cn_213, xl), rfl, (by unfold opBook; rw [hT11, hn12, zif_t c_248]; exact ⟨(congrArg (fun z => -1000100 - z) (hq18_R239 c_248)), ⟨((hfr_R239 0 (by decide)).trans hf0), ((hfr_R239 8 (by decide)).trans hf8), rfl, rfl, ((hfr_R239 29 (by decide)).trans hf29), ((hcr_R239 1 (by decide)).trans hc1), ((hcr_R239 2 (by decide)).trans hc2), ((hcr_R239 3 (by decide)).trans hc3), ((hcr_R239 4 (by decide)).trans hc4), ((hcr_R239 7 (by decide)).trans hc7), ((hcr_R239 11 (by decide)).trans hc11), ((hcr_R239 26 (by decide)).trans hc26), ((hcr_R239 27 (by decide)).trans hc27), ((hcr_R239 28 (by decide)).trans hc28)⟩, ⟨_, _, _, _, _, _, _, _, _, hq5_R239, ((hcr_R239 6 (by decide)).trans hc6), ((hcr_R239 9 (by decide)).trans hc9), ((hcr_R239 10 (by decide)).trans hc10), ((hcr_R239 24 (by decide)).trans hc24), ((hcr_R239 25 (by decide)).trans hc25), hc21, hc22, ((hfr_R239 23 (by decide)).trans hf23)⟩⟩), by rw [ht]; exact hP, hD⟩, hS.F ht⟩) hS.2.2 dX3_book_266
                          · refine lv_aload_n hx hb dX3_book_220 rfl (lv_at hl 0 rfl) ?_
                            refine va_get (D := g.1) (ci := 3) (v := .int (fi_213 20)) (C := RX3) (T := TX3) (N := 30) hx hb hts in_X3 hown hK hP 0 rfl rfl 20 (by decide) (hts _ q1317) (fun _ h9 => h9) rfl dX3_book_221 ?_
                            refine zti (hq20_R213) ?_
                            refine lv_aload_n hx hb dX3_book_224 rfl (lv_at hl 0 rfl) ?_
                            refine va_get (D := g.1) (ci := 3) (v := .ref (ad 5)) (C := RX3) (T := TX3) (N := 30) hx hb hts in_X3 hown hK hP 0 rfl rfl 5 (by decide) (hts _ q1302) (fun _ h9 => h9) rfl dX3_book_225 ?_
                            refine lv_iconst (v := nI 0) hx hb dX3_book_228 (by decide) ?_
                            refine zald hx hb hK hP 5 0 rfl rfl (j := 0) (by omega) (by decide) dX3_book_229 ?_
                            refine zti (congrFun hq5_R213 _) ?_
                            refine zti (show (nF ((pbk3 T n).2.2.2.2)) 0 = nI (((pbk3 T n).2.2.2.2) 0) from rfl) ?_
                            refine lv_ishr hx hb dX3_book_230 ?_
                            refine zti (show _ = nI ((pbk3 T n).2.2.2.1 / 2 ^ (pbk3 T n).2.2.2.2 0) from (zshr (by omega) (by omega))) ?_
                            have hdl : (pbk3 T n).2.2.2.1 / 2 ^ (pbk3 T n).2.2.2.2 0 ≤ (pbk3 T n).2.2.2.1 := Nat.div_le_self _ _
                            refine zi_eq (tgt := 239) hx hb (by omega) dX3_book_231 (by decide) (fun c_231 => ?_) (fun c_231 => ?_)
                            · have hPF_R239 : PF T n (pbk T n) fi_213 cn_213 := (by rw [show pbk T n = pbk3 T n from zif_t c_231]; exact ⟨hq13_R213, hq14_R213, hq15_R213, hq16_R213, hq17_R213, hq18_R213, hq20_R213, hq5_R213, hq12_R213, hq11_R213⟩)
                              have hO_R239 : PO T n (pbk T n) := (by rw [show pbk T n = pbk3 T n from zif_t c_231]; exact hO_R213)
                              have ho__R239 := hO_R239
                              obtain ⟨ho1_R239, _, _, ho4_R239, ho16_R239, hoF_R239⟩ := ho__R239
                              have he13_R239 := tkE_le (T := T) ho1_R239
                              have hk15_R239 := tkK_le T n (pbk T n).1
                              obtain ⟨hq13_R239, hq14_R239, hq15_R239, hq16_R239, hq17_R239, hq18_R239, hq20_R239, hq5_R239, hq12_R239, hq11_R239⟩ := hPF_R239
                              have hfr_R239 := hfr_R213
                              have hcr_R239 := hcr_R213
                              refine lv_aload_n hx hb dX3_book_239 rfl (lv_at hl 0 rfl) ?_
                              refine lv_iconst (v := nI 0) hx hb dX3_book_240 (by decide) ?_
                              refine va_put (D := g.1) (ci := 3) (v := .int (nI 0)) (ty := .int) (C := RX3) (T := TX3) (N := 30) hx hb hts in_X3 tyX3 tyX3_ok nmX3 hown hK hP hD hS 0 rfl rfl 12 (by decide) (hts _ q1309) (fun _ h9 => h9) rfl (by decide +kernel) rfl rfl (Nat.le_of_ble_eq_true rfl) dX3_book_241 (fun H locs hP hD hS => ?_)
                              have hP : va_P g.1 zCL (mW g ad (va_up fi_213 12 (nI 0)) cn_213 xl) _ := hP
                              have hD : va_D (mA ad s.heap.size) (mW g ad (va_up fi_213 12 (nI 0)) cn_213 xl) := hD
                              refine lv_aload_n hx hb dX3_book_244 rfl (lv_at hl 0 rfl) ?_
                              refine va_get (D := g.1) (ci := 3) (v := .int (fi_213 17)) (C := RX3) (T := TX3) (N := 30) hx hb hts in_X3 hown hK hP 0 rfl rfl 17 (by decide) (hts _ q1314) (fun _ h9 => h9) rfl dX3_book_245 ?_
                              refine zti (hq17_R239) ?_
                              refine zi_le (tgt := 267) hx hb (by omega) dX3_book_248 (by decide) (fun c_248 => ?_) (fun c_248 => ?_)
                              · refine lv_aload_n hx hb dX3_book_267 rfl (lv_at hl 0 rfl) ?_
                                refine lv_iconst (v := nI 0) hx hb dX3_book_268 (by decide) ?_
                                refine va_put (D := g.1) (ci := 3) (v := .int (nI 0)) (ty := .int) (C := RX3) (T := TX3) (N := 30) hx hb hts in_X3 tyX3 tyX3_ok nmX3 hown hK hP hD hS 0 rfl rfl 8 (by decide) (hts _ q1305) (fun _ h9 => h9) rfl (by decide +kernel) rfl rfl (Nat.le_of_ble_eq_true rfl) dX3_book_269 (fun H locs hP hD hS => ?_)
                                have hP : va_P g.1 zCL (mW g ad (va_up (va_up fi_213 8 (nI 0)) 12 (nI 0)) cn_213 xl) _ := hP
                                have hD : va_D (mA ad s.heap.size) (mW g ad (va_up (va_up fi_213 8 (nI 0)) 12 (nI 0)) cn_213 xl) := hD
                                refine lv_iconst (v := nI 0) hx hb dX3_book_272 (by decide) ?_
                                refine lv_istore_n (lv' := [(1, .int (nI 0)), (0, .ref (ad 0))]) hx hb dX3_book_273 rfl hl (by decide) rfl (fun ls hl => ?_)
                                refine zloopW (head := 274) (44) (fun k H locs cells slots ls => cells = 0 ∧ slots = 0 ∧ va_P g.1 zCL (mW g ad (va_up (va_up fi_213 8 (nI 0)) 12 (nI 0)) (va_up cn_213 4 (nF (va_cpy (pbk T n).2.2.2.2 (S.2.1 4) 0 0 k))) xl) H ∧ va_D (mA ad s.heap.size) (mW g ad (va_up (va_up fi_213 8 (nI 0)) 12 (nI 0)) (va_up cn_213 4 (nF (va_cpy (pbk T n).2.2.2.2 (S.2.1 4) 0 0 k))) xl) ∧ va_S (mA ad s.heap.size) s.heap H locs ∧ lv_has ls 2 [(0, .ref (ad 0)), (1, .int (nI k))]) (fun k hv_k ih_274 H locs cells slots ls hI => ?_) 0 (Nat.zero_le _) ?_
                                · obtain ⟨rfl, rfl, hP, hD, hS, hl⟩ := hI
                                  refine lv_iload_n hx hb dX3_book_274 rfl (lv_at hl 1 rfl) ?_
                                  refine lv_bipush (v := nI 44) hx hb dX3_book_275 (by decide) ?_
                                  refine zc_ge (tgt := 298) hx hb (by omega) (by omega) dX3_book_277 (by decide) (fun c_277 => ?_) (fun c_277 => ?_)
                                  · obtain rfl : 44 = k := by omega
                                    obtain ⟨hP, hD⟩ := hP.exi hD 4 (f' := nF (pbk T n).2.2.2.2) rfl (fun j hj => by show nI (va_cpy _ _ 0 0 44 j) = nI ((pbk T n).2.2.2.2 j); rw [zcpy_in (by omega) (by omega)]; rw [Nat.zero_add, Nat.sub_zero])
                                    have hP : va_P g.1 zCL (mW g ad (va_up (va_up fi_213 8 (nI 0)) 12 (nI 0)) (va_up cn_213 4 (nF (pbk T n).2.2.2.2)) xl) _ := hP
                                    have hD : va_D (mA ad s.heap.size) (mW g ad (va_up (va_up fi_213 8 (nI 0)) 12 (nI 0)) (va_up cn_213 4 (nF (pbk T n).2.2.2.2)) xl) := hD
                                    refine lv_aload_n hx hb dX3_book_298 rfl (lv_at hl 0 rfl) ?_
                                    refine va_get (D := g.1) (ci := 3) (v := .ref (ad 4)) (C := RX3) (T := TX3) (N := 30) hx hb hts in_X3 hown hK hP 0 rfl rfl 4 (by decide) (hts _ q1301) (fun _ h9 => h9) rfl dX3_book_299 ?_
                                    refine lv_iconst (v := nI 0) hx hb dX3_book_302 (by decide) ?_
                                    refine zald hx hb hK hP 4 0 rfl rfl (j := 0) (by omega) (by decide) dX3_book_303 ?_
                                    refine zti (show (nF ((pbk T n).2.2.2.2)) 0 = nI (((pbk T n).2.2.2.2) 0) from rfl) ?_
                                    exact W.iret (v := nI (((pbk T n).2.2.2.2) 0)) hx hb hr (fun t ht hW => ⟨⟨nI (((pbk T n).2.2.2.2) 0), (va_up (va_up fi_213 8 (nI 0)) 12 (nI 0), va_up cn_213 4 (nF (pbk T n).2.2.2.2), xl), rfl, (by unfold opBook; rw [hT11, hn12, zif_f c_248]; exact ⟨rfl, ⟨((hfr_R239 0 (by decide)).trans hf0), rfl, rfl, ((hfr_R239 19 (by decide)).trans hf19), ((hfr_R239 29 (by decide)).trans hf29), ((hcr_R239 1 (by decide)).trans hc1), ((hcr_R239 2 (by decide)).trans hc2), ((hcr_R239 3 (by decide)).trans hc3), rfl, ((hcr_R239 7 (by decide)).trans hc7), ((hcr_R239 11 (by decide)).trans hc11), ((hcr_R239 26 (by decide)).trans hc26), ((hcr_R239 27 (by decide)).trans hc27), ((hcr_R239 28 (by decide)).trans hc28)⟩, ⟨_, _, _, _, _, _, _, _, _, hq5_R239, ((hcr_R239 6 (by decide)).trans hc6), ((hcr_R239 9 (by decide)).trans hc9), ((hcr_R239 10 (by decide)).trans hc10), ((hcr_R239 24 (by decide)).trans hc24), ((hcr_R239 25 (by decide)).trans hc25), hc21, hc22, ((hfr_R239 23 (by decide)).trans hf23)⟩⟩), by rw [ht]; exact hP, hD⟩, hS.F ht⟩) hS.2.2 dX3_book_304
                                  · refine lv_aload_n hx hb dX3_book_280 rfl (lv_at hl 0 rfl) ?_
                                    refine va_get (D := g.1) (ci := 3) (v := .ref (ad 4)) (C := RX3) (T := TX3) (N := 30) hx hb hts in_X3 hown hK hP 0 rfl rfl 4 (by decide) (hts _ q1301) (fun _ h9 => h9) rfl dX3_book_281 ?_
                                    refine lv_iload_n hx hb dX3_book_284 rfl (lv_at hl 1 rfl) ?_
                                    refine lv_aload_n hx hb dX3_book_285 rfl (lv_at hl 0 rfl) ?_
                                    refine va_get (D := g.1) (ci := 3) (v := .ref (ad 5)) (C := RX3) (T := TX3) (N := 30) hx hb hts in_X3 hown hK hP 0 rfl rfl 5 (by decide) (hts _ q1302) (fun _ h9 => h9) rfl dX3_book_286 ?_
                                    refine lv_iload_n hx hb dX3_book_289 rfl (lv_at hl 1 rfl) ?_
                                    refine zald hx hb hK hP 5 0 rfl rfl (j := k) (by omega) (by decide) dX3_book_290 ?_
                                    refine zti (congrFun hq5_R239 _) ?_
                                    refine zti (show (nF ((pbk T n).2.2.2.2)) k = nI (((pbk T n).2.2.2.2) k) from rfl) ?_
                                    refine zast (f := nF (va_cpy (pbk T n).2.2.2.2 (S.2.1 4) 0 0 k)) hx hb hK hP hD hS 4 0 rfl rfl (j := k) (by omega) (by decide) dX3_book_291 (fun H locs hP hD hS => ?_)
                                    rw [nF_up] at hP hD
                                    have hP : va_P g.1 zCL (mW g ad (va_up (va_up fi_213 8 (nI 0)) 12 (nI 0)) (va_up cn_213 4 (nF (va_up (va_cpy (pbk T n).2.2.2.2 (S.2.1 4) 0 0 k) k (((pbk T n).2.2.2.2) k)))) xl) _ := hP
                                    have hD : va_D (mA ad s.heap.size) (mW g ad (va_up (va_up fi_213 8 (nI 0)) 12 (nI 0)) (va_up cn_213 4 (nF (va_up (va_cpy (pbk T n).2.2.2.2 (S.2.1 4) 0 0 k) k (((pbk T n).2.2.2.2) k)))) xl) := hD
                                    refine lv_iinc (v := nI (k + 1)) (lv' := [(1, .int (nI (k + 1))), (0, .ref (ad 0))]) hx hb dX3_book_292 hl (k := 1) rfl (nI_add k 1) (by decide) rfl (fun ls hl => ?_)
                                    refine lv_goto (tgt := 274) hx hb dX3_book_295 (by decide) ?_
                                    rw [show va_up (va_cpy (pbk T n).2.2.2.2 (S.2.1 4) 0 0 k) k ((pbk T n).2.2.2.2 k) = va_cpy (pbk T n).2.2.2.2 (S.2.1 4) 0 0 (k + 1) by have h9 := zcpy_s (pbk T n).2.2.2.2 (S.2.1 4) 0 0 k; rw [Nat.zero_add] at h9; exact h9] at hP hD
                                    exact ih_274 (by omega) _ _ _ _ _ ⟨rfl, rfl, hP, hD, hS, lv_sub hl [1, 0] rfl⟩
                                · rw [mW_up (cn := cn_213) (k := 4) (f := nF (va_cpy (pbk T n).2.2.2.2 (S.2.1 4) 0 0 0)) (by rw [zcpy_0]; exact (hcr_R239 4 (by decide)).trans hc4)] at hP
                                  rw [mW_up (cn := cn_213) (k := 4) (f := nF (va_cpy (pbk T n).2.2.2.2 (S.2.1 4) 0 0 0)) (by rw [zcpy_0]; exact (hcr_R239 4 (by decide)).trans hc4)] at hD
                                  have hP : va_P g.1 zCL (mW g ad (va_up (va_up fi_213 8 (nI 0)) 12 (nI 0)) (va_up cn_213 4 (nF (va_cpy (pbk T n).2.2.2.2 (S.2.1 4) 0 0 0))) xl) _ := hP
                                  have hD : va_D (mA ad s.heap.size) (mW g ad (va_up (va_up fi_213 8 (nI 0)) 12 (nI 0)) (va_up cn_213 4 (nF (va_cpy (pbk T n).2.2.2.2 (S.2.1 4) 0 0 0))) xl) := hD
                                  exact ⟨rfl, rfl, hP, hD, hS, lv_sub hl [1, 0] rfl⟩
                              · refine lv_aload_n hx hb dX3_book_251 rfl (lv_at hl 0 rfl) ?_
                                refine lv_aload_n hx hb dX3_book_252 rfl (lv_at hl 0 rfl) ?_
                                refine va_get (D := g.1) (ci := 3) (v := .int (fi_213 17)) (C := RX3) (T := TX3) (N := 30) hx hb hts in_X3 hown hK hP 0 rfl rfl 17 (by decide) (hts _ q1314) (fun _ h9 => h9) rfl dX3_book_253 ?_
                                refine zti (hq17_R239) ?_
                                refine va_put (D := g.1) (ci := 3) (v := .int (nI ((pbk T n).2.1))) (ty := .int) (C := RX3) (T := TX3) (N := 30) hx hb hts in_X3 tyX3 tyX3_ok nmX3 hown hK hP hD hS 0 rfl rfl 19 (by decide) (hts _ q1316) (fun _ h9 => h9) rfl (by decide +kernel) rfl rfl (Nat.le_of_ble_eq_true rfl) dX3_book_256 (fun H locs hP hD hS => ?_)
                                have hP : va_P g.1 zCL (mW g ad (va_up (va_up fi_213 12 (nI 0)) 19 (nI ((pbk T n).2.1))) cn_213 xl) _ := hP
                                have hD : va_D (mA ad s.heap.size) (mW g ad (va_up (va_up fi_213 12 (nI 0)) 19 (nI ((pbk T n).2.1))) cn_213 xl) := hD
                                refine lv_ldc hx hb hown (hts _ q1466) dX3_book_259 ?_
                                refine lv_aload_n hx hb dX3_book_261 rfl (lv_at hl 0 rfl) ?_
                                refine va_get (D := g.1) (ci := 3) (v := .int (fi_213 18)) (C := RX3) (T := TX3) (N := 30) hx hb hts in_X3 hown hK hP 0 rfl rfl 18 (by decide) (hts _ q1315) (fun _ h9 => h9) rfl dX3_book_262 ?_
                                refine lv_isub hx hb dX3_book_265 ?_
                                exact W.iret (v := (-1000100) - (fi_213 18)) hx hb hr (fun t ht hW => ⟨⟨(-1000100) - (fi_213 18), (va_up (va_up fi_213 12 (nI 0)) 19 (nI ((pbk T n).2.1)), cn_213, xl), rfl, (by unfold opBook; rw [hT11, hn12, zif_t c_248]; exact ⟨(congrArg (fun z => -1000100 - z) (hq18_R239 c_248)), ⟨((hfr_R239 0 (by decide)).trans hf0), ((hfr_R239 8 (by decide)).trans hf8), rfl, rfl, ((hfr_R239 29 (by decide)).trans hf29), ((hcr_R239 1 (by decide)).trans hc1), ((hcr_R239 2 (by decide)).trans hc2), ((hcr_R239 3 (by decide)).trans hc3), ((hcr_R239 4 (by decide)).trans hc4), ((hcr_R239 7 (by decide)).trans hc7), ((hcr_R239 11 (by decide)).trans hc11), ((hcr_R239 26 (by decide)).trans hc26), ((hcr_R239 27 (by decide)).trans hc27), ((hcr_R239 28 (by decide)).trans hc28)⟩, ⟨_, _, _, _, _, _, _, _, _, hq5_R239, ((hcr_R239 6 (by decide)).trans hc6), ((hcr_R239 9 (by decide)).trans hc9), ((hcr_R239 10 (by decide)).trans hc10), ((hcr_R239 24 (by decide)).trans hc24), ((hcr_R239 25 (by decide)).trans hc25), hc21, hc22, ((hfr_R239 23 (by decide)).trans hf23)⟩⟩), by rw [ht]; exact hP, hD⟩, hS.F ht⟩) hS.2.2 dX3_book_266
                            · refine lv_aload_n hx hb dX3_book_234 rfl (lv_at hl 0 rfl) ?_
                              refine lv_iconst (v := nI 4) hx hb dX3_book_235 (by decide) ?_
                              have hle_236 := hS.1
                              refine va_callv (va_runV (As := [.int (nI 4)]) (rest := []) ⟨hx, hb, hml, hown, hts⟩ (m_X3_bad l g ad fi_213 cn_213 xl _ T n (pbk3 T n) (show PF T n (pbk3 T n) fi_213 cn_213 from ⟨hq13_R213, hq14_R213, hq15_R213, hq16_R213, hq17_R213, hq18_R213, hq20_R213, hq5_R213, hq12_R213, hq11_R213⟩) hO_R213 4 (by decide)) (cwV 1 hts (lw_V q1442 q1444 qs34 q69 q1445) rfl rfl rfl hdV_X3_bad ⟨Nat.le_of_ble_eq_true rfl, Nat.le_of_ble_eq_true rfl⟩) (zpreV hK hN (va_recv hK hP (ci := 3) (q0 := 0) rfl rfl) ⟨rfl, hP, hD.weaken (fun _ _ _ _ => trivial)⟩) rfl rfl hl.1 rfl (lv_room (Nat.le_of_ble_eq_true rfl)) dX3_book_236 ⟨Nat.le_of_ble_eq_true rfl, Nat.le_of_ble_eq_true rfl⟩) hS (fun q _ h => mA_le hS.1 q h) (mA_le hS.1) (fun u t H locs ht hvm hw_236 hB hzz hkk hS => ?_)
                              obtain ⟨hP, hD⟩ := hB
                              rw [ht] at hP
                              have hD := hD.weaken (fun _ _ _ h => mA_le hle_236 _ h)
                              obtain ⟨fi_239, cn_239, xl_239⟩ := u
                              obtain ⟨_, hPF_239, hO_239, hxl_239, hfr_239, hcr_239⟩ := hw_236
                              have hxl_239 : xl = xl_239 := hxl_239.symm
                              subst hxl_239
                              have hPF_239 : PF T n (pbad 4 (pbk3 T n)) fi_239 cn_239 := hPF_239
                              have hO_239 : PO T n (pbad 4 (pbk3 T n)) := hO_239
                              have ho__239 := hO_239
                              obtain ⟨ho1_239, _, _, ho4_239, ho16_239, hoF_239⟩ := ho__239
                              have he13_239 := tkE_le (T := T) ho1_239
                              have hk15_239 := tkK_le T n (pbad 4 (pbk3 T n)).1
                              obtain ⟨hq13_239, hq14_239, hq15_239, hq16_239, hq17_239, hq18_239, hq20_239, hq5_239, hq12_239, hq11_239⟩ := hPF_239
                              have hfr_239 : ∀ k, (k < 13 ∨ 20 < k ∨ k = 19) → fi_239 k = fi k := fun k hk => (hfr_239 k hk).trans (hfr_R213 k hk)
                              have hcr_239 : ∀ k, k ≠ 5 → cn_239 k = cn k := fun k hk => (hcr_239 k hk).trans (hcr_R213 k hk)
                              have hP : va_P g.1 zCL (mW g ad fi_239 cn_239 xl) _ := hP
                              have hD : va_D (mA ad s.heap.size) (mW g ad fi_239 cn_239 xl) := hD
                              have hPF_R239 : PF T n (pbk T n) fi_239 cn_239 := (by rw [show pbk T n = pbad 4 (pbk3 T n) from zif_f c_231]; exact ⟨hq13_239, hq14_239, hq15_239, hq16_239, hq17_239, hq18_239, hq20_239, hq5_239, hq12_239, hq11_239⟩)
                              have hO_R239 : PO T n (pbk T n) := (by rw [show pbk T n = pbad 4 (pbk3 T n) from zif_f c_231]; exact hO_239)
                              have ho__R239 := hO_R239
                              obtain ⟨ho1_R239, _, _, ho4_R239, ho16_R239, hoF_R239⟩ := ho__R239
                              have he13_R239 := tkE_le (T := T) ho1_R239
                              have hk15_R239 := tkK_le T n (pbk T n).1
                              obtain ⟨hq13_R239, hq14_R239, hq15_R239, hq16_R239, hq17_R239, hq18_R239, hq20_R239, hq5_R239, hq12_R239, hq11_R239⟩ := hPF_R239
                              have hfr_R239 := hfr_239
                              have hcr_R239 := hcr_239
                              refine lv_aload_n hx hb dX3_book_239 rfl (lv_at hl 0 rfl) ?_
                              refine lv_iconst (v := nI 0) hx hb dX3_book_240 (by decide) ?_
                              refine va_put (D := g.1) (ci := 3) (v := .int (nI 0)) (ty := .int) (C := RX3) (T := TX3) (N := 30) hx hb hts in_X3 tyX3 tyX3_ok nmX3 hown hK hP hD hS 0 rfl rfl 12 (by decide) (hts _ q1309) (fun _ h9 => h9) rfl (by decide +kernel) rfl rfl (Nat.le_of_ble_eq_true rfl) dX3_book_241 (fun H locs hP hD hS => ?_)
                              have hP : va_P g.1 zCL (mW g ad (va_up fi_239 12 (nI 0)) cn_239 xl) _ := hP
                              have hD : va_D (mA ad s.heap.size) (mW g ad (va_up fi_239 12 (nI 0)) cn_239 xl) := hD
                              refine lv_aload_n hx hb dX3_book_244 rfl (lv_at hl 0 rfl) ?_
                              refine va_get (D := g.1) (ci := 3) (v := .int (fi_239 17)) (C := RX3) (T := TX3) (N := 30) hx hb hts in_X3 hown hK hP 0 rfl rfl 17 (by decide) (hts _ q1314) (fun _ h9 => h9) rfl dX3_book_245 ?_
                              refine zti (hq17_R239) ?_
                              refine zi_le (tgt := 267) hx hb (by omega) dX3_book_248 (by decide) (fun c_248 => ?_) (fun c_248 => ?_)
                              · refine lv_aload_n hx hb dX3_book_267 rfl (lv_at hl 0 rfl) ?_
                                refine lv_iconst (v := nI 0) hx hb dX3_book_268 (by decide) ?_
                                refine va_put (D := g.1) (ci := 3) (v := .int (nI 0)) (ty := .int) (C := RX3) (T := TX3) (N := 30) hx hb hts in_X3 tyX3 tyX3_ok nmX3 hown hK hP hD hS 0 rfl rfl 8 (by decide) (hts _ q1305) (fun _ h9 => h9) rfl (by decide +kernel) rfl rfl (Nat.le_of_ble_eq_true rfl) dX3_book_269 (fun H locs hP hD hS => ?_)
                                have hP : va_P g.1 zCL (mW g ad (va_up (va_up fi_239 8 (nI 0)) 12 (nI 0)) cn_239 xl) _ := hP
                                have hD : va_D (mA ad s.heap.size) (mW g ad (va_up (va_up fi_239 8 (nI 0)) 12 (nI 0)) cn_239 xl) := hD
                                refine lv_iconst (v := nI 0) hx hb dX3_book_272 (by decide) ?_
                                refine lv_istore_n (lv' := [(1, .int (nI 0)), (0, .ref (ad 0))]) hx hb dX3_book_273 rfl hl (by decide) rfl (fun ls hl => ?_)
                                refine zloopW (head := 274) (44) (fun k H locs cells slots ls => cells = 0 ∧ slots = 0 ∧ va_P g.1 zCL (mW g ad (va_up (va_up fi_239 8 (nI 0)) 12 (nI 0)) (va_up cn_239 4 (nF (va_cpy (pbk T n).2.2.2.2 (S.2.1 4) 0 0 k))) xl) H ∧ va_D (mA ad s.heap.size) (mW g ad (va_up (va_up fi_239 8 (nI 0)) 12 (nI 0)) (va_up cn_239 4 (nF (va_cpy (pbk T n).2.2.2.2 (S.2.1 4) 0 0 k))) xl) ∧ va_S (mA ad s.heap.size) s.heap H locs ∧ lv_has ls 2 [(0, .ref (ad 0)), (1, .int (nI k))]) (fun k hv_k ih_274 H locs cells slots ls hI => ?_) 0 (Nat.zero_le _) ?_
                                · obtain ⟨rfl, rfl, hP, hD, hS, hl⟩ := hI
                                  refine lv_iload_n hx hb dX3_book_274 rfl (lv_at hl 1 rfl) ?_
                                  refine lv_bipush (v := nI 44) hx hb dX3_book_275 (by decide) ?_
                                  refine zc_ge (tgt := 298) hx hb (by omega) (by omega) dX3_book_277 (by decide) (fun c_277 => ?_) (fun c_277 => ?_)
                                  · obtain rfl : 44 = k := by omega
                                    obtain ⟨hP, hD⟩ := hP.exi hD 4 (f' := nF (pbk T n).2.2.2.2) rfl (fun j hj => by show nI (va_cpy _ _ 0 0 44 j) = nI ((pbk T n).2.2.2.2 j); rw [zcpy_in (by omega) (by omega)]; rw [Nat.zero_add, Nat.sub_zero])
                                    have hP : va_P g.1 zCL (mW g ad (va_up (va_up fi_239 8 (nI 0)) 12 (nI 0)) (va_up cn_239 4 (nF (pbk T n).2.2.2.2)) xl) _ := hP
                                    have hD : va_D (mA ad s.heap.size) (mW g ad (va_up (va_up fi_239 8 (nI 0)) 12 (nI 0)) (va_up cn_239 4 (nF (pbk T n).2.2.2.2)) xl) := hD
                                    refine lv_aload_n hx hb dX3_book_298 rfl (lv_at hl 0 rfl) ?_
                                    refine va_get (D := g.1) (ci := 3) (v := .ref (ad 4)) (C := RX3) (T := TX3) (N := 30) hx hb hts in_X3 hown hK hP 0 rfl rfl 4 (by decide) (hts _ q1301) (fun _ h9 => h9) rfl dX3_book_299 ?_
                                    refine lv_iconst (v := nI 0) hx hb dX3_book_302 (by decide) ?_
                                    refine zald hx hb hK hP 4 0 rfl rfl (j := 0) (by omega) (by decide) dX3_book_303 ?_
                                    refine zti (show (nF ((pbk T n).2.2.2.2)) 0 = nI (((pbk T n).2.2.2.2) 0) from rfl) ?_
                                    exact W.iret (v := nI (((pbk T n).2.2.2.2) 0)) hx hb hr (fun t ht hW => ⟨⟨nI (((pbk T n).2.2.2.2) 0), (va_up (va_up fi_239 8 (nI 0)) 12 (nI 0), va_up cn_239 4 (nF (pbk T n).2.2.2.2), xl), rfl, (by unfold opBook; rw [hT11, hn12, zif_f c_248]; exact ⟨rfl, ⟨((hfr_R239 0 (by decide)).trans hf0), rfl, rfl, ((hfr_R239 19 (by decide)).trans hf19), ((hfr_R239 29 (by decide)).trans hf29), ((hcr_R239 1 (by decide)).trans hc1), ((hcr_R239 2 (by decide)).trans hc2), ((hcr_R239 3 (by decide)).trans hc3), rfl, ((hcr_R239 7 (by decide)).trans hc7), ((hcr_R239 11 (by decide)).trans hc11), ((hcr_R239 26 (by decide)).trans hc26), ((hcr_R239 27 (by decide)).trans hc27), ((hcr_R239 28 (by decide)).trans hc28)⟩, ⟨_, _, _, _, _, _, _, _, _, hq5_R239, ((hcr_R239 6 (by decide)).trans hc6), ((hcr_R239 9 (by decide)).trans hc9), ((hcr_R239 10 (by decide)).trans hc10), ((hcr_R239 24 (by decide)).trans hc24), ((hcr_R239 25 (by decide)).trans hc25), hc21, hc22, ((hfr_R239 23 (by decide)).trans hf23)⟩⟩), by rw [ht]; exact hP, hD⟩, hS.F ht⟩) hS.2.2 dX3_book_304
                                  · refine lv_aload_n hx hb dX3_book_280 rfl (lv_at hl 0 rfl) ?_
                                    refine va_get (D := g.1) (ci := 3) (v := .ref (ad 4)) (C := RX3) (T := TX3) (N := 30) hx hb hts in_X3 hown hK hP 0 rfl rfl 4 (by decide) (hts _ q1301) (fun _ h9 => h9) rfl dX3_book_281 ?_
                                    refine lv_iload_n hx hb dX3_book_284 rfl (lv_at hl 1 rfl) ?_
                                    refine lv_aload_n hx hb dX3_book_285 rfl (lv_at hl 0 rfl) ?_
                                    refine va_get (D := g.1) (ci := 3) (v := .ref (ad 5)) (C := RX3) (T := TX3) (N := 30) hx hb hts in_X3 hown hK hP 0 rfl rfl 5 (by decide) (hts _ q1302) (fun _ h9 => h9) rfl dX3_book_286 ?_
                                    refine lv_iload_n hx hb dX3_book_289 rfl (lv_at hl 1 rfl) ?_
                                    refine zald hx hb hK hP 5 0 rfl rfl (j := k) (by omega) (by decide) dX3_book_290 ?_
                                    refine zti (congrFun hq5_R239 _) ?_
                                    refine zti (show (nF ((pbk T n).2.2.2.2)) k = nI (((pbk T n).2.2.2.2) k) from rfl) ?_
                                    refine zast (f := nF (va_cpy (pbk T n).2.2.2.2 (S.2.1 4) 0 0 k)) hx hb hK hP hD hS 4 0 rfl rfl (j := k) (by omega) (by decide) dX3_book_291 (fun H locs hP hD hS => ?_)
                                    rw [nF_up] at hP hD
                                    have hP : va_P g.1 zCL (mW g ad (va_up (va_up fi_239 8 (nI 0)) 12 (nI 0)) (va_up cn_239 4 (nF (va_up (va_cpy (pbk T n).2.2.2.2 (S.2.1 4) 0 0 k) k (((pbk T n).2.2.2.2) k)))) xl) _ := hP
                                    have hD : va_D (mA ad s.heap.size) (mW g ad (va_up (va_up fi_239 8 (nI 0)) 12 (nI 0)) (va_up cn_239 4 (nF (va_up (va_cpy (pbk T n).2.2.2.2 (S.2.1 4) 0 0 k) k (((pbk T n).2.2.2.2) k)))) xl) := hD
                                    refine lv_iinc (v := nI (k + 1)) (lv' := [(1, .int (nI (k + 1))), (0, .ref (ad 0))]) hx hb dX3_book_292 hl (k := 1) rfl (nI_add k 1) (by decide) rfl (fun ls hl => ?_)
                                    refine lv_goto (tgt := 274) hx hb dX3_book_295 (by decide) ?_
                                    rw [show va_up (va_cpy (pbk T n).2.2.2.2 (S.2.1 4) 0 0 k) k ((pbk T n).2.2.2.2 k) = va_cpy (pbk T n).2.2.2.2 (S.2.1 4) 0 0 (k + 1) by have h9 := zcpy_s (pbk T n).2.2.2.2 (S.2.1 4) 0 0 k; rw [Nat.zero_add] at h9; exact h9] at hP hD
                                    exact ih_274 (by omega) _ _ _ _ _ ⟨rfl, rfl, hP, hD, hS, lv_sub hl [1, 0] rfl⟩
                                · rw [mW_up (cn := cn_239) (k := 4) (f := nF (va_cpy (pbk T n).2.2.2.2 (S.2.1 4) 0 0 0)) (by rw [zcpy_0]; exact (hcr_R239 4 (by decide)).trans hc4)] at hP
                                  rw [mW_up (cn := cn_239) (k := 4) (f := nF (va_cpy (pbk T n).2.2.2.2 (S.2.1 4) 0 0 0)) (by rw [zcpy_0]; exact (hcr_R239 4 (by decide)).trans hc4)] at hD
                                  have hP : va_P g.1 zCL (mW g ad (va_up (va_up fi_239 8 (nI 0)) 12 (nI 0)) (va_up cn_239 4 (nF (va_cpy (pbk T n).2.2.2.2 (S.2.1 4) 0 0 0))) xl) _ := hP
                                  have hD : va_D (mA ad s.heap.size) (mW g ad (va_up (va_up fi_239 8 (nI 0)) 12 (nI 0)) (va_up cn_239 4 (nF (va_cpy (pbk T n).2.2.2.2 (S.2.1 4) 0 0 0))) xl) := hD
                                  exact ⟨rfl, rfl, hP, hD, hS, lv_sub hl [1, 0] rfl⟩
                              · refine lv_aload_n hx hb dX3_book_251 rfl (lv_at hl 0 rfl) ?_
                                refine lv_aload_n hx hb dX3_book_252 rfl (lv_at hl 0 rfl) ?_
                                refine va_get (D := g.1) (ci := 3) (v := .int (fi_239 17)) (C := RX3) (T := TX3) (N := 30) hx hb hts in_X3 hown hK hP 0 rfl rfl 17 (by decide) (hts _ q1314) (fun _ h9 => h9) rfl dX3_book_253 ?_
                                refine zti (hq17_R239) ?_
                                refine va_put (D := g.1) (ci := 3) (v := .int (nI ((pbk T n).2.1))) (ty := .int) (C := RX3) (T := TX3) (N := 30) hx hb hts in_X3 tyX3 tyX3_ok nmX3 hown hK hP hD hS 0 rfl rfl 19 (by decide) (hts _ q1316) (fun _ h9 => h9) rfl (by decide +kernel) rfl rfl (Nat.le_of_ble_eq_true rfl) dX3_book_256 (fun H locs hP hD hS => ?_)
                                have hP : va_P g.1 zCL (mW g ad (va_up (va_up fi_239 12 (nI 0)) 19 (nI ((pbk T n).2.1))) cn_239 xl) _ := hP
                                have hD : va_D (mA ad s.heap.size) (mW g ad (va_up (va_up fi_239 12 (nI 0)) 19 (nI ((pbk T n).2.1))) cn_239 xl) := hD
                                refine lv_ldc hx hb hown (hts _ q1466) dX3_book_259 ?_
                                refine lv_aload_n hx hb dX3_book_261 rfl (lv_at hl 0 rfl) ?_
                                refine va_get (D := g.1) (ci := 3) (v := .int (fi_239 18)) (C := RX3) (T := TX3) (N := 30) hx hb hts in_X3 hown hK hP 0 rfl rfl 18 (by decide) (hts _ q1315) (fun _ h9 => h9) rfl dX3_book_262 ?_
                                refine lv_isub hx hb dX3_book_265 ?_
                                exact W.iret (v := (-1000100) - (fi_239 18)) hx hb hr (fun t ht hW => ⟨⟨(-1000100) - (fi_239 18), (va_up (va_up fi_239 12 (nI 0)) 19 (nI ((pbk T n).2.1)), cn_239, xl), rfl, (by unfold opBook; rw [hT11, hn12, zif_t c_248]; exact ⟨(congrArg (fun z => -1000100 - z) (hq18_R239 c_248)), ⟨((hfr_R239 0 (by decide)).trans hf0), ((hfr_R239 8 (by decide)).trans hf8), rfl, rfl, ((hfr_R239 29 (by decide)).trans hf29), ((hcr_R239 1 (by decide)).trans hc1), ((hcr_R239 2 (by decide)).trans hc2), ((hcr_R239 3 (by decide)).trans hc3), ((hcr_R239 4 (by decide)).trans hc4), ((hcr_R239 7 (by decide)).trans hc7), ((hcr_R239 11 (by decide)).trans hc11), ((hcr_R239 26 (by decide)).trans hc26), ((hcr_R239 27 (by decide)).trans hc27), ((hcr_R239 28 (by decide)).trans hc28)⟩, ⟨_, _, _, _, _, _, _, _, _, hq5_R239, ((hcr_R239 6 (by decide)).trans hc6), ((hcr_R239 9 (by decide)).trans hc9), ((hcr_R239 10 (by decide)).trans hc10), ((hcr_R239 24 (by decide)).trans hc24), ((hcr_R239 25 (by decide)).trans hc25), hc21, hc22, ((hfr_R239 23 (by decide)).trans hf23)⟩⟩), by rw [ht]; exact hP, hD⟩, hS.F ht⟩) hS.2.2 dX3_book_266
                    · refine lv_aload_n hx hb dX3_book_149 rfl (lv_at hl 0 rfl) ?_
                      refine va_get (D := g.1) (ci := 3) (v := .int (fi_L105 15)) (C := RX3) (T := TX3) (N := 30) hx hb hts in_X3 hown hK hP 0 rfl rfl 15 (by decide) (hts _ q1312) (fun _ h9 => h9) rfl dX3_book_150 ?_
                      refine zti (hq15_L105) ?_
                      refine lv_iconst (v := nI 2) hx hb dX3_book_153 (by decide) ?_
                      refine zc_ne (tgt := 170) hx hb (by omega) (by omega) dX3_book_154 (by decide) (fun c_154 => ?_) (fun c_154 => ?_)
                      · refine lv_iconst (v := nI 0) hx hb dX3_book_170 (by decide) ?_
                        exact jn_149 _ ((zB_f (fun z => c_154 z.1)).symm)
                      · refine lv_aload_n hx hb dX3_book_157 rfl (lv_at hl 0 rfl) ?_
                        refine va_get (D := g.1) (ci := 3) (v := .int (fi_L105 16)) (C := RX3) (T := TX3) (N := 30) hx hb hts in_X3 hown hK hP 0 rfl rfl 16 (by decide) (hts _ q1313) (fun _ h9 => h9) rfl dX3_book_158 ?_
                        refine zti (hq16_L105) ?_
                        refine lv_bipush (v := nI 120) hx hb dX3_book_161 (by decide) ?_
                        refine lv_icmp_ne (tgt := 170) hx hb dX3_book_163 (by decide) (fun c_163 => ?_) (fun c_163 => ?_)
                        · refine lv_iconst (v := nI 0) hx hb dX3_book_170 (by decide) ?_
                          exact jn_149 _ ((zB_f (fun z => c_163 z.2)).symm)
                        · refine lv_iconst (v := nI 1) hx hb dX3_book_166 (by decide) ?_
                          refine lv_goto (tgt := 171) hx hb dX3_book_167 (by decide) ?_
                          exact jn_149 _ ((zB_t ⟨c_154, c_163⟩).symm)
                  · refine lv_aload_n hx hb dX3_book_138 rfl (lv_at hl 0 rfl) ?_
                    have hle_139 := hS.1
                    refine va_callv (va_runV (As := []) (rest := []) ⟨hx, hb, hml, hown, hts⟩ (m_X3_readSort l g ad fi_L105 cn_L105 xl _ T n b0 (show PF T n b0 fi_L105 cn_L105 from ⟨hq13_L105, hq14_L105, hq15_L105, hq16_L105, hq17_L105, hq18_L105, hq20_L105, hq5_L105, hq12_L105, hq11_L105⟩) hO_L105 c_114) (cwV 0 hts (lw_V q1454 q1456 qs37 q69 q1457) rfl rfl rfl hdV_X3_readSort ⟨Nat.le_of_ble_eq_true rfl, Nat.le_of_ble_eq_true rfl⟩) (zpreV hK hN (va_recv hK hP (ci := 3) (q0 := 0) rfl rfl) ⟨rfl, hP, hD.weaken (fun _ _ _ _ => trivial)⟩) rfl rfl hl.1 rfl (lv_room (Nat.le_of_ble_eq_true rfl)) dX3_book_139 ⟨Nat.le_of_ble_eq_true rfl, Nat.le_of_ble_eq_true rfl⟩) hS (fun q _ h => mA_le hS.1 q h) (mA_le hS.1) (fun u t H locs ht hvm hw_139 hB hzz hkk hS => ?_)
                    obtain ⟨hP, hD⟩ := hB
                    rw [ht] at hP
                    have hD := hD.weaken (fun _ _ _ h => mA_le hle_139 _ h)
                    obtain ⟨fi_142, cn_142, xl_142⟩ := u
                    obtain ⟨_, hPF_142, hO_142, hxl_142, hfr_142, hcr_142⟩ := hw_139
                    have hxl_142 : xl = xl_142 := hxl_142.symm
                    subst hxl_142
                    have hPF_142 : PF T n (psrs T n b0) fi_142 cn_142 := hPF_142
                    have hO_142 : PO T n (psrs T n b0) := hO_142
                    have ho__142 := hO_142
                    obtain ⟨ho1_142, _, _, ho4_142, ho16_142, hoF_142⟩ := ho__142
                    have he13_142 := tkE_le (T := T) ho1_142
                    have hk15_142 := tkK_le T n (psrs T n b0).1
                    obtain ⟨hq13_142, hq14_142, hq15_142, hq16_142, hq17_142, hq18_142, hq20_142, hq5_142, hq12_142, hq11_142⟩ := hPF_142
                    have hfr_142 : ∀ k, (k < 13 ∨ 20 < k ∨ k = 19) → fi_142 k = fi k := fun k hk => (hfr_142 k hk).trans (hfr_L105 k hk)
                    have hcr_142 : ∀ k, k ≠ 5 → cn_142 k = cn k := fun k hk => (hcr_142 k hk).trans (hcr_L105 k hk)
                    have hP : va_P g.1 zCL (mW g ad fi_142 cn_142 xl) _ := hP
                    have hD : va_D (mA ad s.heap.size) (mW g ad fi_142 cn_142 xl) := hD
                    refine lv_iinc (v := nI (k + 1)) (lv' := [(1, .int (nI (k + 1))), (0, .ref (ad 0))]) hx hb dX3_book_142 hl (k := 1) rfl (nI_add k 1) (by decide) rfl (fun ls hl => ?_)
                    refine lv_goto (tgt := 105) hx hb dX3_book_145 (by decide) ?_
                    exact ih_105 (by omega) _ _ _ _ _ ⟨_, _, _, rfl, rfl, hP, hD, hS, lv_sub hl [1, 0] rfl, ⟨hq13_142, hq14_142, hq15_142, hq16_142, hq17_142, hq18_142, hq20_142, hq5_142, hq12_142, hq11_142⟩, hO_142, hrem.trans (prem_s (by omega) c_114 (Or.inr (fun z => c_135 z.2))), (fun k hk => (hfr_142 k hk)), (fun k hk => (hcr_142 k hk))⟩
        · exact ⟨pbk0 T n, _, _, rfl, rfl, hP, hD, hS, lv_sub hl [1, 0] rfl, ⟨hq13_R103, hq14_R103, hq15_R103, hq16_R103, hq17_R103, hq18_R103, hq20_R103, hq5_R103, hq12_R103, hq11_R103⟩, hO_R103, rfl, (fun k hk => (hfr_R103 k hk)), (fun k hk => (hcr_R103 k hk))⟩
      · refine lv_aload_n hx hb dX3_book_41 rfl (lv_at hl 0 rfl) ?_
        refine va_get (D := g.1) (ci := 3) (v := .int (nI (tkK T n 0))) (C := RX3) (T := TX3) (N := 30) hx hb hts in_X3 hown hK hP 0 rfl rfl 15 (by decide) (hts _ q1312) (fun _ h9 => h9) rfl dX3_book_42 ?_
        refine lv_iconst (v := nI 2) hx hb dX3_book_45 (by decide) ?_
        refine zc_ne (tgt := 62) hx hb (by omega) (by omega) dX3_book_46 (by decide) (fun c_46 => ?_) (fun c_46 => ?_)
        · refine lv_iconst (v := nI 0) hx hb dX3_book_62 (by decide) ?_
          exact jn_41 _ ((zB_f (fun z => c_46 z.1)).symm)
        · refine lv_aload_n hx hb dX3_book_49 rfl (lv_at hl 0 rfl) ?_
          refine va_get (D := g.1) (ci := 3) (v := .int (tkV T n 0)) (C := RX3) (T := TX3) (N := 30) hx hb hts in_X3 hown hK hP 0 rfl rfl 16 (by decide) (hts _ q1313) (fun _ h9 => h9) rfl dX3_book_50 ?_
          refine lv_bipush (v := nI 114) hx hb dX3_book_53 (by decide) ?_
          refine lv_icmp_ne (tgt := 62) hx hb dX3_book_55 (by decide) (fun c_55 => ?_) (fun c_55 => ?_)
          · refine lv_iconst (v := nI 0) hx hb dX3_book_62 (by decide) ?_
            exact jn_41 _ ((zB_f (fun z => c_55 z.2)).symm)
          · refine lv_iconst (v := nI 1) hx hb dX3_book_58 (by decide) ?_
            refine lv_goto (tgt := 63) hx hb dX3_book_59 (by decide) ?_
            exact jn_41 _ ((zB_t ⟨c_46, c_55⟩).symm)
    · refine lv_aload_n hx hb dX3_book_27 rfl (lv_at hl 0 rfl) ?_
      refine va_get (D := g.1) (ci := 3) (v := .ref (ad 5)) (C := RX3) (T := TX3) (N := 30) hx hb hts in_X3 hown hK hP 0 rfl rfl 5 (by decide) (hts _ q1302) (fun _ h9 => h9) rfl dX3_book_28 ?_
      refine lv_iload_n hx hb dX3_book_31 rfl (lv_at hl 1 rfl) ?_
      refine lv_iconst (v := nI 0) hx hb dX3_book_32 (by decide) ?_
      refine zast (f := nF (va_cpy (fun _ => 0) F5 0 0 k)) hx hb hK hP hD hS 5 0 rfl rfl (j := k) (by omega) (by decide) dX3_book_33 (fun H locs hP hD hS => ?_)
      rw [nF_up] at hP hD
      have hP : va_P g.1 zCL (mW g ad (va_up (va_up (va_up (va_up (va_up (va_up fi 13 (nI (tkE T n 0))) 14 (nI 0)) 15 (nI (tkK T n 0))) 16 (tkV T n 0)) 17 (nI 0)) 20 (nI 0)) (va_up cn 5 (nF (va_up (va_cpy (fun _ => 0) F5 0 0 k) k 0))) xl) _ := hP
      have hD : va_D (mA ad s.heap.size) (mW g ad (va_up (va_up (va_up (va_up (va_up (va_up fi 13 (nI (tkE T n 0))) 14 (nI 0)) 15 (nI (tkK T n 0))) 16 (tkV T n 0)) 17 (nI 0)) 20 (nI 0)) (va_up cn 5 (nF (va_up (va_cpy (fun _ => 0) F5 0 0 k) k 0))) xl) := hD
      refine lv_iinc (v := nI (k + 1)) (lv' := [(1, .int (nI (k + 1))), (0, .ref (ad 0))]) hx hb dX3_book_34 hl (k := 1) rfl (nI_add k 1) (by decide) rfl (fun ls hl => ?_)
      refine lv_goto (tgt := 21) hx hb dX3_book_37 (by decide) ?_
      rw [show va_up (va_cpy (fun _ => 0) F5 0 0 k) k 0 = va_cpy (fun _ => 0) F5 0 0 (k + 1) by have h9 := zcpy_s (fun _ => 0) F5 0 0 k; rw [Nat.zero_add] at h9; exact h9] at hP hD
      exact ih_21 (by omega) _ _ _ _ _ ⟨rfl, rfl, hP, hD, hS, lv_sub hl [1, 0] rfl⟩
  · rw [mW_up (cn := cn) (k := 5) (f := nF (va_cpy (fun _ => 0) F5 0 0 0)) (by rw [zcpy_0]; exact hc5)] at hP
    rw [mW_up (cn := cn) (k := 5) (f := nF (va_cpy (fun _ => 0) F5 0 0 0)) (by rw [zcpy_0]; exact hc5)] at hD
    have hP : va_P g.1 zCL (mW g ad (va_up (va_up (va_up (va_up (va_up (va_up fi 13 (nI (tkE T n 0))) 14 (nI 0)) 15 (nI (tkK T n 0))) 16 (tkV T n 0)) 17 (nI 0)) 20 (nI 0)) (va_up cn 5 (nF (va_cpy (fun _ => 0) F5 0 0 0))) xl) _ := hP
    have hD : va_D (mA ad s.heap.size) (mW g ad (va_up (va_up (va_up (va_up (va_up (va_up fi 13 (nI (tkE T n 0))) 14 (nI 0)) 15 (nI (tkK T n 0))) 16 (tkV T n 0)) 17 (nI 0)) 20 (nI 0)) (va_up cn 5 (nF (va_cpy (fun _ => 0) F5 0 0 0))) xl) := hD
    exact ⟨rfl, rfl, hP, hD, hS, lv_sub hl [1, 0] rfl⟩
