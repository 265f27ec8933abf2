/-! the twin: numbers -/
set_option maxHeartbeats 4000000 in
set_option maxRecDepth 100000 in
theorem m_X3_plus (l : Launch) (g : zG) (ad : Nat → Nat) (fi : Nat → Int32) (cn : Nat → Nat → Int32) (xl : Nat → Nat → Int64) (sz : Nat) (p0 : Prop) (hf23 : fi 23 = zB p0) (a b : Nat) (ha : a < 2 ^ 63) (hb2 : b < 2 ^ 63) : Met l yX3_plus (ws_ yX3_plus cX3_plus 5 (some .long)) ({ frames := 0, cells := 0, slots := 0, locals := 0 }) (zPc g [.ref (ad 0), .long (lN a), .long (lN b)] (mH g ad fi cn xl sz)) (va_Ql (fun (r9 : Int64) u => r9 = lN (zif (p0 ∨ 2 ^ 63 ≤ a + b) 0 (a + b)) ∧ u = (va_up fi 23 (zB (p0 ∨ 2 ^ 63 ≤ a + b)), cn, xl)) (mB g ad sz) (mA ad sz)) 0 0 (mA ad sz) := by
  refine Met.ofW (cc := cX3_plus) (maxL := 5) (ret := (some .long)) (by decide) rfl ?_
  intro p e s m args below meth c s₁ B0 hml hv
  obtain ⟨rfl, ⟨hK, hN⟩, hsz, hP, hD⟩ := hv
  have hx := B0.exec
  have hb := B0.bytes
  have hr := B0.returns
  have hts := atoms_spec (ws := ws_ yX3_plus cX3_plus 5 (some .long)) B0.pre
  have hts : ∀ w ∈ lw_all, w.before _ s = true := fun w h => hts w (List.mem_cons_of_mem _ h)
  have hown : s.vm.findClass RX3 = some m.cls := findClass_of_methodNamed B0.named
  have hlocks := B0.notSynchronized
  subst hsz
  have hD := mD_self s.heap.size hD
  have hS : va_S (mA ad s.heap.size) s.heap s.heap [] := va_S.rf
  have hl := lv_entry ([.ref (ad 0), .long (lN a), .long (lN b)]) (n := 5) (Nat.le_of_ble_eq_true rfl)
  rw [lg_entry_eq]
  generalize (lg_sl ([.ref (ad 0), .long (lN a), .long (lN b)]) ++ List.replicate (5 - (lg_sl ([.ref (ad 0), .long (lN a), .long (lN b)])).length) Slot.unset).toArray = ls at hl ⊢
  have hl : lv_has ls 5 [(0, .ref (ad 0)), (1, .long (lN a)), (3, .long (lN b))] := hl
  refine lv_aload_n hx hb dX3_plus_0 rfl (lv_at hl 0 rfl) ?_
  refine zjoin (ls := ls) (α := Int32) (fun v9 => v9 = zB (p0 ∨ 2 ^ 63 ≤ a + b)) (fun v9 => .int v9 :: [.ref (ad 0)]) 23 (fun v9 hv => ?_) (fun jn_1 => ?_)
  · subst hv
    refine va_put (D := g.1) (ci := 3) (v := .int (zB (p0 ∨ 2 ^ 63 ≤ a + b))) (ty := .boolean) (C := RX3) (T := TX3) (N := 30) hx hb hts in_X3 tyX3 tyX3_ok nmX3 hown hK hP hD hS 0 rfl rfl 23 (by decide) (hts _ q1320) (fun _ h9 => h9) rfl (by decide +kernel) (zB_nar _) (zB_fit _) (Nat.le_of_ble_eq_true rfl) dX3_plus_23 (fun H locs hP hD hS => ?_)
    have hP : va_P g.1 zCL (mW g ad (va_up fi 23 (zB (p0 ∨ 2 ^ 63 ≤ a + b))) cn xl) _ := hP
    have hD : va_D (mA ad s.heap.size) (mW g ad (va_up fi 23 (zB (p0 ∨ 2 ^ 63 ≤ a + b))) cn xl) := hD
    refine lv_aload_n hx hb dX3_plus_26 rfl (lv_at hl 0 rfl) ?_
    refine va_get (D := g.1) (ci := 3) (v := .int (zB (p0 ∨ 2 ^ 63 ≤ a + b))) (C := RX3) (T := TX3) (N := 30) hx hb hts in_X3 hown hK hP 0 rfl rfl 23 (by decide) (hts _ q1320) (fun _ h9 => h9) rfl dX3_plus_27 ?_
    refine zi_eqB (tgt := 37) hx hb dX3_plus_30 (by decide) (fun c_30 => ?_) (fun c_30 => ?_)
    · refine lv_lload_n hx hb dX3_plus_37 rfl (lv_at hl 1 rfl) ?_
      refine lv_lload_n hx hb dX3_plus_38 rfl (lv_at hl 2 rfl) ?_
      refine lv_ladd hx hb dX3_plus_39 ?_
      refine ztl (lN_add a b) ?_
      exact W.lret (v := lN (a + b)) hx hb hr (fun t ht hW => ⟨⟨lN (a + b), (va_up fi 23 (zB (p0 ∨ 2 ^ 63 ≤ a + b)), cn, xl), rfl, ⟨(congrArg lN (zif_f c_30)).symm, rfl⟩, by rw [ht]; exact hP, hD⟩, hS.F ht⟩) hS.2.2 dX3_plus_40
    · refine lv_lconst (v := lN 0) hx hb dX3_plus_33 (by decide) ?_
      refine lv_goto (tgt := 40) hx hb dX3_plus_34 (by decide) ?_
      exact W.lret (v := lN 0) hx hb hr (fun t ht hW => ⟨⟨lN 0, (va_up fi 23 (zB (p0 ∨ 2 ^ 63 ≤ a + b)), cn, xl), rfl, ⟨(congrArg lN (zif_t c_30)).symm, rfl⟩, by rw [ht]; exact hP, hD⟩, hS.F ht⟩) hS.2.2 dX3_plus_40
  · refine lv_aload_n hx hb dX3_plus_1 rfl (lv_at hl 0 rfl) ?_
    refine va_get (D := g.1) (ci := 3) (v := .int (fi 23)) (C := RX3) (T := TX3) (N := 30) hx hb hts in_X3 hown hK hP 0 rfl rfl 23 (by decide) (hts _ q1320) (fun _ h9 => h9) rfl dX3_plus_2 ?_
    refine zti (hf23) ?_
    refine zi_neB (tgt := 18) hx hb dX3_plus_5 (by decide) (fun c_5 => ?_) (fun c_5 => ?_)
    · refine lv_iconst (v := nI 1) hx hb dX3_plus_18 (by decide) ?_
      refine lv_goto (tgt := 23) hx hb dX3_plus_19 (by decide) ?_
      exact jn_1 _ ((zB_t (Or.inl c_5)).symm)
    · refine lv_lload_n hx hb dX3_plus_8 rfl (lv_at hl 1 rfl) ?_
      refine lv_ldc2 hx hb hown (hts _ q1590) dX3_plus_9 ?_
      refine ztl (show (9223372036854775807 : Int64) = lN 9223372036854775807 from rfl) ?_
      refine lv_lload_n hx hb dX3_plus_12 rfl (lv_at hl 2 rfl) ?_
      refine lv_lsub hx hb dX3_plus_13 ?_
      refine ztl (show _ = lN (9223372036854775807 - b) from lN_sub (by omega)) ?_
      refine W.lcmp hx hb dX3_plus_14 ?_
      refine zl_le (tgt := 22) hx hb (by omega) (by omega) dX3_plus_15 (by decide) (fun c_15 => ?_) (fun c_15 => ?_)
      · refine lv_iconst (v := nI 0) hx hb dX3_plus_22 (by decide) ?_
        exact jn_1 _ ((zB_f (fun z => z.elim c_5 (by omega))).symm)
      · refine lv_iconst (v := nI 1) hx hb dX3_plus_18 (by decide) ?_
        refine lv_goto (tgt := 23) hx hb dX3_plus_19 (by decide) ?_
        exact jn_1 _ ((zB_t (Or.inr (by omega))).symm)

set_option maxHeartbeats 4000000 in
set_option maxRecDepth 100000 in
theorem m_X3_layNumbers (l : Launch) (g : zG) (ad : Nat → Nat) (fi : Nat → Int32) (cn : Nat → Nat → Int32) (xl : Nat → Nat → Int64) (sz : Nat) (B N X : Nat → Nat) (hc4 : cn 4 = nF B) (hc21 : xl 21 = lF N) (hc22 : xl 22 = lF X) (hB : bOK B) (n : Nat) (hn : n ≤ 60) : Met l yX3_layNumbers (ws_ yX3_layNumbers cX3_layNumbers 6 none) ({ frames := 2, cells := 0, slots := 0, locals := 45 }) (zPc g [.ref (ad 0), .int (nI n)] (mH g ad fi cn xl sz)) (va_Qv (fun u => True ∧ ∃ N9 X9 p9, u = (va_up fi 23 (zB p9), cn, va_up (va_up xl 21 (lF N9)) 22 (lF X9)) ∧ bK B N9 p9 n) (mB g ad sz) (mA ad sz)) 0 0 (mA ad sz) := by
  refine Met.ofW (cc := cX3_layNumbers) (maxL := 6) (ret := none) (by decide) rfl ?_
  intro p e s m args below meth c s₁ B0 hml hv
  obtain ⟨rfl, ⟨hK, hN⟩, hsz, hP, hD⟩ := hv
  have hx := B0.exec
  have hb := B0.bytes
  have hr := B0.returns
  have hts := atoms_spec (ws := ws_ yX3_layNumbers cX3_layNumbers 6 none) B0.pre
  have hts : ∀ w ∈ lw_all, w.before _ s = true := fun w h => hts w (List.mem_cons_of_mem _ h)
  have hown : s.vm.findClass RX3 = some m.cls := findClass_of_methodNamed B0.named
  have hlocks := B0.notSynchronized
  subst hsz
  have hD := mD_self s.heap.size hD
  have hS : va_S (mA ad s.heap.size) s.heap s.heap [] := va_S.rf
  have hl := lv_entry ([.ref (ad 0), .int (nI n)]) (n := 6) (Nat.le_of_ble_eq_true rfl)
  rw [lg_entry_eq]
  generalize (lg_sl ([.ref (ad 0), .int (nI n)]) ++ List.replicate (6 - (lg_sl ([.ref (ad 0), .int (nI n)])).length) Slot.unset).toArray = ls at hl ⊢
  have hl : lv_has ls 6 [(0, .ref (ad 0)), (1, .int (nI n))] := hl
  have h0 : B 0 ≤ 4 := hB.n4
  have h3 : B 3 ≤ 8 := hB.r8
  refine lv_aload_n hx hb dX3_layNumbers_0 rfl (lv_at hl 0 rfl) ?_
  refine lv_iconst (v := nI 0) hx hb dX3_layNumbers_1 (by decide) ?_
  refine va_put (D := g.1) (ci := 3) (v := .int (nI 0)) (ty := .boolean) (C := RX3) (T := TX3) (N := 30) hx hb hts in_X3 tyX3 tyX3_ok nmX3 hown hK hP hD hS 0 rfl rfl 23 (by decide) (hts _ q1320) (fun _ h9 => h9) rfl (by decide +kernel) rfl rfl (Nat.le_of_ble_eq_true rfl) dX3_layNumbers_2 (fun H locs hP hD hS => ?_)
  have hP : va_P g.1 zCL (mW g ad (va_up fi 23 (nI 0)) cn xl) _ := hP
  have hD : va_D (mA ad s.heap.size) (mW g ad (va_up fi 23 (nI 0)) cn xl) := hD
  rw [show va_up fi 23 (nI 0) = va_up fi 23 (zB False) from by rw [show zB False = nI 0 from zB_f id]] at hP hD
  have hP : va_P g.1 zCL (mW g ad (va_up fi 23 (zB False)) cn xl) _ := hP
  have hD : va_D (mA ad s.heap.size) (mW g ad (va_up fi 23 (zB False)) cn xl) := hD
  refine lv_iconst (v := nI 0) hx hb dX3_layNumbers_5 (by decide) ?_
  refine lv_istore_n (lv' := [(2, .int (nI 0)), (0, .ref (ad 0)), (1, .int (nI n))]) hx hb dX3_layNumbers_6 rfl hl (by decide) rfl (fun ls hl => ?_)
  refine zloopW (head := 7) (4) (fun k H locs cells slots ls => cells = 0 ∧ slots = 0 ∧ va_P g.1 zCL (mW g ad (va_up fi 23 (zB False)) cn (va_up xl 21 (lF (va_cpy (fun _ => 0) N 0 0 k)))) H ∧ va_D (mA ad s.heap.size) (mW g ad (va_up fi 23 (zB False)) cn (va_up xl 21 (lF (va_cpy (fun _ => 0) N 0 0 k)))) ∧ va_S (mA ad s.heap.size) s.heap H locs ∧ lv_has ls 6 [(0, .ref (ad 0)), (1, .int (nI n)), (2, .int (nI k))]) (fun k hv_k ih_7 H locs cells slots ls hI => ?_) 0 (Nat.zero_le _) ?_
  · obtain ⟨rfl, rfl, hP, hD, hS, hl⟩ := hI
    refine lv_iload_n hx hb dX3_layNumbers_7 rfl (lv_at hl 2 rfl) ?_
    refine lv_iconst (v := nI 4) hx hb dX3_layNumbers_8 (by decide) ?_
    refine zc_ge (tgt := 25) hx hb (by omega) (by omega) dX3_layNumbers_9 (by decide) (fun c_9 => ?_) (fun c_9 => ?_)
    · obtain rfl : 4 = k := by omega
      obtain ⟨hP, hD⟩ := hP.exl hD 11 (f' := lF (fun y => zsum (fun j => zif (B (4 + j) = y) 1 0) 0)) rfl (fun j hj => by show lN (va_cpy _ _ 0 0 4 j) = lN 0; rw [zcpy_in (by omega) (by omega)])
      have hP : va_P g.1 zCL (mW g ad (va_up fi 23 (zB False)) cn (va_up xl 21 (lF (fun y => zsum (fun j => zif (B (4 + j) = y) 1 0) 0)))) _ := hP
      have hD : va_D (mA ad s.heap.size) (mW g ad (va_up fi 23 (zB False)) cn (va_up xl 21 (lF (fun y => zsum (fun j => zif (B (4 + j) = y) 1 0) 0)))) := hD
      refine lv_iconst (v := nI 0) hx hb dX3_layNumbers_25 (by decide) ?_
      refine lv_istore_n (lv' := [(2, .int (nI 0)), (0, .ref (ad 0)), (1, .int (nI n))]) hx hb dX3_layNumbers_26 rfl hl (by decide) rfl (fun ls hl => ?_)
      refine zloopW (head := 27) (B 3) (fun k H locs cells slots ls => cells = 0 ∧ slots = 0 ∧ va_P g.1 zCL (mW g ad (va_up fi 23 (zB False)) cn (va_up xl 21 (lF (fun y => zsum (fun j => zif (B (4 + j) = y) 1 0) k)))) H ∧ va_D (mA ad s.heap.size) (mW g ad (va_up fi 23 (zB False)) cn (va_up xl 21 (lF (fun y => zsum (fun j => zif (B (4 + j) = y) 1 0) k)))) ∧ va_S (mA ad s.heap.size) s.heap H locs ∧ lv_has ls 6 [(0, .ref (ad 0)), (1, .int (nI n)), (2, .int (nI k))]) (fun k hv_k ih_27 H locs cells slots ls hI => ?_) 0 (Nat.zero_le _) ?_
      · obtain ⟨rfl, rfl, hP, hD, hS, hl⟩ := hI
        refine lv_iload_n hx hb dX3_layNumbers_27 rfl (lv_at hl 2 rfl) ?_
        refine lv_aload_n hx hb dX3_layNumbers_28 rfl (lv_at hl 0 rfl) ?_
        refine va_get (D := g.1) (ci := 3) (v := .ref (ad 4)) (C := RX3) (T := TX3) (N := 30) hx hb hts in_X3 hown hK hP 0 rfl rfl 4 (by decide) (hts _ q1301) (fun _ h9 => h9) rfl dX3_layNumbers_29 ?_
        refine lv_iconst (v := nI 3) hx hb dX3_layNumbers_32 (by decide) ?_
        refine zald hx hb hK hP 4 0 rfl rfl (j := 3) (by omega) (by decide) dX3_layNumbers_33 ?_
        refine zti (congrFun hc4 _) ?_
        refine zti (show (nF B) 3 = nI (B 3) from rfl) ?_
        refine zc_ge (tgt := 60) hx hb (by omega) (by omega) dX3_layNumbers_34 (by decide) (fun c_34 => ?_) (fun c_34 => ?_)
        · obtain rfl : B 3 = k := by omega
          refine lv_iconst (v := nI 0) hx hb dX3_layNumbers_60 (by decide) ?_
          refine lv_istore_n (lv' := [(2, .int (nI 0)), (0, .ref (ad 0)), (1, .int (nI n))]) hx hb dX3_layNumbers_61 rfl hl (by decide) rfl (fun ls hl => ?_)
          refine zloopW (head := 62) (n) (fun k H locs cells slots ls => ∃ (N1 : Nat → Nat) (X1 : Nat → Nat) (p1 : Prop), cells = 0 ∧ slots = 0 ∧ va_P g.1 zCL (mW g ad (va_up fi 23 (zB p1)) cn (va_up (va_up xl 21 (lF N1)) 22 (lF X1))) H ∧ va_D (mA ad s.heap.size) (mW g ad (va_up fi 23 (zB p1)) cn (va_up (va_up xl 21 (lF N1)) 22 (lF X1))) ∧ va_S (mA ad s.heap.size) s.heap H locs ∧ lv_has ls 6 [(0, .ref (ad 0)), (1, .int (nI n)), (2, .int (nI k))] ∧ (bK B N1 p1 k)) (fun k hv_k ih_62 H locs cells slots ls hI => ?_) 0 (Nat.zero_le _) ?_
          · obtain ⟨N1, X1, p1, rfl, rfl, hP, hD, hS, hl, hI_62⟩ := hI
            refine lv_iload_n hx hb dX3_layNumbers_62 rfl (lv_at hl 2 rfl) ?_
            refine lv_iload_n hx hb dX3_layNumbers_63 rfl (lv_at hl 1 rfl) ?_
            refine zc_ge (tgt := 201) hx hb (by omega) (by omega) dX3_layNumbers_64 (by decide) (fun c_64 => ?_) (fun c_64 => ?_)
            · exact W.vret hx hb hr (fun t ht hW => ⟨⟨(va_up fi 23 (zB p1), cn, va_up (va_up xl 21 (lF N1)) 22 (lF X1)), rfl, ⟨trivial, N1, X1, p1, rfl, by rw [show n = k by omega]; exact hI_62⟩, by rw [ht]; exact hP, hD⟩, hS.F ht⟩) hS.2.2 dX3_layNumbers_201
            · refine lv_aload_n hx hb dX3_layNumbers_67 rfl (lv_at hl 0 rfl) ?_
              refine va_get (D := g.1) (ci := 3) (v := .int (zB p1)) (C := RX3) (T := TX3) (N := 30) hx hb hts in_X3 hown hK hP 0 rfl rfl 23 (by decide) (hts _ q1320) (fun _ h9 => h9) rfl dX3_layNumbers_68 ?_
              refine zi_neB (tgt := 201) hx hb dX3_layNumbers_71 (by decide) (fun c_71 => ?_) (fun c_71 => ?_)
              · exact W.vret hx hb hr (fun t ht hW => ⟨⟨(va_up fi 23 (zB p1), cn, va_up (va_up xl 21 (lF N1)) 22 (lF X1)), rfl, ⟨trivial, N1, X1, p1, rfl, hI_62.le c_71 (by omega)⟩, by rw [ht]; exact hP, hD⟩, hS.F ht⟩) hS.2.2 dX3_layNumbers_201
              · refine lv_iconst (v := nI 0) hx hb dX3_layNumbers_74 (by decide) ?_
                refine lv_istore_n (lv' := [(3, .int (nI 0)), (0, .ref (ad 0)), (1, .int (nI n)), (2, .int (nI k))]) hx hb dX3_layNumbers_75 rfl hl (by decide) rfl (fun ls hl => ?_)
                refine zloopW (head := 76) (4) (fun y H locs cells slots ls => cells = 0 ∧ slots = 0 ∧ va_P g.1 zCL (mW g ad (va_up fi 23 (zB p1)) cn (va_up (va_up xl 21 (lF N1)) 22 (lF (va_cpy (fun _ => 0) X1 0 0 y)))) H ∧ va_D (mA ad s.heap.size) (mW g ad (va_up fi 23 (zB p1)) cn (va_up (va_up xl 21 (lF N1)) 22 (lF (va_cpy (fun _ => 0) X1 0 0 y)))) ∧ va_S (mA ad s.heap.size) s.heap H locs ∧ lv_has ls 6 [(0, .ref (ad 0)), (1, .int (nI n)), (2, .int (nI k)), (3, .int (nI y))]) (fun y hv_y ih_76 H locs cells slots ls hI => ?_) 0 (Nat.zero_le _) ?_
                · obtain ⟨rfl, rfl, hP, hD, hS, hl⟩ := hI
                  refine lv_iload_n hx hb dX3_layNumbers_76 rfl (lv_at hl 3 rfl) ?_
                  refine lv_iconst (v := nI 4) hx hb dX3_layNumbers_77 (by decide) ?_
                  refine zc_ge (tgt := 94) hx hb (by omega) (by omega) dX3_layNumbers_78 (by decide) (fun c_78 => ?_) (fun c_78 => ?_)
                  · obtain rfl : 4 = y := by omega
                    refine lv_iconst (v := nI 0) hx hb dX3_layNumbers_94 (by decide) ?_
                    refine lv_istore_n (lv' := [(3, .int (nI 0)), (0, .ref (ad 0)), (1, .int (nI n)), (2, .int (nI k))]) hx hb dX3_layNumbers_95 rfl hl (by decide) rfl (fun ls hl => ?_)
                    refine zloopW (head := 96) (B 0) (fun x H locs cells slots ls => ∃ (X2 : Nat → Nat) (p2 : Prop), cells = 0 ∧ slots = 0 ∧ va_P g.1 zCL (mW g ad (va_up fi 23 (zB p2)) cn (va_up (va_up xl 21 (lF N1)) 22 (lF X2))) H ∧ va_D (mA ad s.heap.size) (mW g ad (va_up fi 23 (zB p2)) cn (va_up (va_up xl 21 (lF N1)) 22 (lF X2))) ∧ va_S (mA ad s.heap.size) s.heap H locs ∧ lv_has ls 6 [(0, .ref (ad 0)), (1, .int (nI n)), (2, .int (nI k)), (3, .int (nI x))] ∧ (bJ X2 p2 (bnst B N1 x))) (fun x hv_x ih_96 H locs cells slots ls hI => ?_) 0 (Nat.zero_le _) ?_
                    · obtain ⟨X2, p2, rfl, rfl, hP, hD, hS, hl, hI_96⟩ := hI
                      refine lv_iload_n hx hb dX3_layNumbers_96 rfl (lv_at hl 3 rfl) ?_
                      refine lv_aload_n hx hb dX3_layNumbers_97 rfl (lv_at hl 0 rfl) ?_
                      refine va_get (D := g.1) (ci := 3) (v := .ref (ad 4)) (C := RX3) (T := TX3) (N := 30) hx hb hts in_X3 hown hK hP 0 rfl rfl 4 (by decide) (hts _ q1301) (fun _ h9 => h9) rfl dX3_layNumbers_98 ?_
                      refine lv_iconst (v := nI 0) hx hb dX3_layNumbers_101 (by decide) ?_
                      refine zald hx hb hK hP 4 0 rfl rfl (j := 0) (by omega) (by decide) dX3_layNumbers_102 ?_
                      refine zti (congrFun hc4 _) ?_
                      refine zti (show (nF B) 0 = nI (B 0) from rfl) ?_
                      refine zc_ge (tgt := 170) hx hb (by omega) (by omega) dX3_layNumbers_103 (by decide) (fun c_103 => ?_) (fun c_103 => ?_)
                      · obtain rfl : B 0 = x := by omega
                        refine lv_iconst (v := nI 0) hx hb dX3_layNumbers_170 (by decide) ?_
                        refine lv_istore_n (lv' := [(3, .int (nI 0)), (0, .ref (ad 0)), (1, .int (nI n)), (2, .int (nI k))]) hx hb dX3_layNumbers_171 rfl hl (by decide) rfl (fun ls hl => ?_)
                        refine zloopW (head := 172) (4) (fun y H locs cells slots ls => cells = 0 ∧ slots = 0 ∧ va_P g.1 zCL (mW g ad (va_up fi 23 (zB p2)) cn (va_up (va_up xl 21 (lF (va_cpy X2 N1 0 0 y))) 22 (lF X2))) H ∧ va_D (mA ad s.heap.size) (mW g ad (va_up fi 23 (zB p2)) cn (va_up (va_up xl 21 (lF (va_cpy X2 N1 0 0 y))) 22 (lF X2))) ∧ va_S (mA ad s.heap.size) s.heap H locs ∧ lv_has ls 6 [(0, .ref (ad 0)), (1, .int (nI n)), (2, .int (nI k)), (3, .int (nI y))]) (fun y hv_y ih_172 H locs cells slots ls hI => ?_) 0 (Nat.zero_le _) ?_
                        · obtain ⟨rfl, rfl, hP, hD, hS, hl⟩ := hI
                          refine lv_iload_n hx hb dX3_layNumbers_172 rfl (lv_at hl 3 rfl) ?_
                          refine lv_iconst (v := nI 4) hx hb dX3_layNumbers_173 (by decide) ?_
                          refine zc_ge (tgt := 195) hx hb (by omega) (by omega) dX3_layNumbers_174 (by decide) (fun c_174 => ?_) (fun c_174 => ?_)
                          · obtain rfl : 4 = y := by omega
                            obtain ⟨hP, hD⟩ := hP.exl hD 11 (f' := lF X2) rfl (fun j hj => by show lN (va_cpy _ _ 0 0 4 j) = lN (X2 j); rw [zcpy_in (by omega) (by omega)]; rw [Nat.zero_add, Nat.sub_zero])
                            have hP : va_P g.1 zCL (mW g ad (va_up fi 23 (zB p2)) cn (va_up (va_up xl 21 (lF X2)) 22 (lF X2))) _ := hP
                            have hD : va_D (mA ad s.heap.size) (mW g ad (va_up fi 23 (zB p2)) cn (va_up (va_up xl 21 (lF X2)) 22 (lF X2))) := hD
                            refine lv_iinc (v := nI (k + 1)) (lv' := [(2, .int (nI (k + 1))), (0, .ref (ad 0)), (1, .int (nI n)), (3, .int (nI 4))]) hx hb dX3_layNumbers_195 hl (k := 2) rfl (nI_add k 1) (by decide) rfl (fun ls hl => ?_)
                            refine lv_goto (tgt := 62) hx hb dX3_layNumbers_198 (by decide) ?_
                            have hJ := hI_62.s c_71 h0 hI_96
                            exact ih_62 (by omega) _ _ _ _ _ ⟨X2, X2, p2, rfl, rfl, hP, hD, hS, lv_sub hl [1, 2, 0] rfl, hJ⟩
                          · refine lv_aload_n hx hb dX3_layNumbers_177 rfl (lv_at hl 0 rfl) ?_
                            refine va_get (D := g.1) (ci := 3) (v := .ref (ad 21)) (C := RX3) (T := TX3) (N := 30) hx hb hts in_X3 hown hK hP 0 rfl rfl 21 (by decide) (hts _ q1318) (fun _ h9 => h9) rfl dX3_layNumbers_178 ?_
                            refine lv_iload_n hx hb dX3_layNumbers_181 rfl (lv_at hl 3 rfl) ?_
                            refine lv_aload_n hx hb dX3_layNumbers_182 rfl (lv_at hl 0 rfl) ?_
                            refine va_get (D := g.1) (ci := 3) (v := .ref (ad 22)) (C := RX3) (T := TX3) (N := 30) hx hb hts in_X3 hown hK hP 0 rfl rfl 22 (by decide) (hts _ q1319) (fun _ h9 => h9) rfl dX3_layNumbers_183 ?_
                            refine lv_iload_n hx hb dX3_layNumbers_186 rfl (lv_at hl 3 rfl) ?_
                            refine zall hx hb hK hP 12 1 rfl rfl (j := y) (by omega) (by decide) dX3_layNumbers_187 ?_
                            refine ztl (show (lF X2) y = lN (X2 y) from rfl) ?_
                            refine zasl (f := lF (va_cpy X2 N1 0 0 y)) hx hb hK hP hD hS 11 1 rfl rfl (j := y) (by omega) (by decide) dX3_layNumbers_188 (fun H locs hP hD hS => ?_)
                            rw [lF_up] at hP hD
                            have hP : va_P g.1 zCL (mW g ad (va_up fi 23 (zB p2)) cn (va_up (va_up xl 21 (lF (va_up (va_cpy X2 N1 0 0 y) y (X2 y)))) 22 (lF X2))) _ := hP
                            have hD : va_D (mA ad s.heap.size) (mW g ad (va_up fi 23 (zB p2)) cn (va_up (va_up xl 21 (lF (va_up (va_cpy X2 N1 0 0 y) y (X2 y)))) 22 (lF X2))) := hD
                            refine lv_iinc (v := nI (y + 1)) (lv' := [(3, .int (nI (y + 1))), (0, .ref (ad 0)), (1, .int (nI n)), (2, .int (nI k))]) hx hb dX3_layNumbers_189 hl (k := 3) rfl (nI_add y 1) (by decide) rfl (fun ls hl => ?_)
                            refine lv_goto (tgt := 172) hx hb dX3_layNumbers_192 (by decide) ?_
                            rw [show va_up (va_cpy X2 N1 0 0 y) y (X2 y) = va_cpy X2 N1 0 0 (y + 1) by have h9 := zcpy_s X2 N1 0 0 y; rw [Nat.zero_add] at h9; exact h9] at hP hD
                            exact ih_172 (by omega) _ _ _ _ _ ⟨rfl, rfl, hP, hD, hS, lv_sub hl [1, 2, 3, 0] rfl⟩
                        · rw [mW_upl (xl := va_up (va_up xl 21 (lF N1)) 22 (lF X2)) (k := 21) (f := lF (va_cpy X2 N1 0 0 0)) (by rw [zcpy_0]; try rfl)] at hP
                          rw [mW_upl (xl := va_up (va_up xl 21 (lF N1)) 22 (lF X2)) (k := 21) (f := lF (va_cpy X2 N1 0 0 0)) (by rw [zcpy_0]; try rfl)] at hD
                          have hP : va_P g.1 zCL (mW g ad (va_up fi 23 (zB p2)) cn (va_up (va_up xl 21 (lF (va_cpy X2 N1 0 0 0))) 22 (lF X2))) _ := hP
                          have hD : va_D (mA ad s.heap.size) (mW g ad (va_up fi 23 (zB p2)) cn (va_up (va_up xl 21 (lF (va_cpy X2 N1 0 0 0))) 22 (lF X2))) := hD
                          exact ⟨rfl, rfl, hP, hD, hS, lv_sub hl [1, 2, 3, 0] rfl⟩
                      · have hx0 : x < B 0 := by omega
                        have hxl := (hB.il hx0).2
                        have hxk := (hB.kd hx0).2
                        have hxw := (hB.wl hx0).2
                        refine lv_iconst (v := nI 0) hx hb dX3_layNumbers_106 (by decide) ?_
                        refine lv_istore (lv' := [(4, .int (nI 0)), (0, .ref (ad 0)), (1, .int (nI n)), (2, .int (nI k)), (3, .int (nI x))]) hx hb dX3_layNumbers_107 hl (by decide) rfl (fun ls hl => ?_)
                        refine zloopW (head := 109) (bil B x) (fun i H locs cells slots ls => ∃ (X3 : Nat → Nat) (p3 : Prop), cells = 0 ∧ slots = 0 ∧ va_P g.1 zCL (mW g ad (va_up fi 23 (zB p3)) cn (va_up (va_up xl 21 (lF N1)) 22 (lF X3))) H ∧ va_D (mA ad s.heap.size) (mW g ad (va_up fi 23 (zB p3)) cn (va_up (va_up xl 21 (lF N1)) 22 (lF X3))) ∧ va_S (mA ad s.heap.size) s.heap H locs ∧ lv_has ls 6 [(0, .ref (ad 0)), (1, .int (nI n)), (2, .int (nI k)), (3, .int (nI x)), (4, .int (nI i))] ∧ (bJ X3 p3 (fun y => bnst B N1 x y + bnin B N1 x i y))) (fun i hv_i ih_109 H locs cells slots ls hI => ?_) 0 (Nat.zero_le _) ?_
                        · obtain ⟨X3, p3, rfl, rfl, hP, hD, hS, hl, hI_109⟩ := hI
                          refine lv_iload hx hb dX3_layNumbers_109 (lv_at hl 4 rfl) ?_
                          refine lv_aload_n hx hb dX3_layNumbers_111 rfl (lv_at hl 0 rfl) ?_
                          refine va_get (D := g.1) (ci := 3) (v := .ref (ad 4)) (C := RX3) (T := TX3) (N := 30) hx hb hts in_X3 hown hK hP 0 rfl rfl 4 (by decide) (hts _ q1301) (fun _ h9 => h9) rfl dX3_layNumbers_112 ?_
                          refine lv_iload_n hx hb dX3_layNumbers_115 rfl (lv_at hl 3 rfl) ?_
                          have hQ_116 : va_P g.1 zCL [(ad 4, .inl (g.2 0, 44, .inl (cn 4)))] _ := hP.sub [4] rfl
                          rw [show _ = _ from hc4] at hQ_116
                          refine vp_callSi (W.runS (As := [.ref (ad 4), .int (nI x)]) (rest := [.int (nI i)]) ⟨hx, hb, hml, hown, hts⟩ (m_X3_imageSize l g (ad 4) B x (by omega) (by first | assumption | omega | exact (hB.kd (by omega)).2)) (va_cwS 2 hts (lw_S q1539 q1540 q69 q1541) rfl rfl rfl hdS_X3_imageSize ⟨Nat.le_of_ble_eq_true rfl, Nat.le_of_ble_eq_true rfl⟩) (zpreS hK hN hQ_116) rfl rfl hl.1 rfl (lv_room (Nat.le_of_ble_eq_true rfl)) dX3_layNumbers_116 ⟨Nat.le_of_ble_eq_true rfl, Nat.le_of_ble_eq_true rfl⟩) (fun r_116 hr_116 => ?_)
                          subst hr_116
                          refine zc_ge (tgt := 164) hx hb (by omega) (by omega) dX3_layNumbers_119 (by decide) (fun c_119 => ?_) (fun c_119 => ?_)
                          · obtain rfl : bil B x = i := by omega
                            refine lv_iinc (v := nI (x + 1)) (lv' := [(3, .int (nI (x + 1))), (0, .ref (ad 0)), (1, .int (nI n)), (2, .int (nI k)), (4, .int (nI (bil B x)))]) hx hb dX3_layNumbers_164 hl (k := 3) rfl (nI_add x 1) (by decide) rfl (fun ls hl => ?_)
                            refine lv_goto (tgt := 96) hx hb dX3_layNumbers_167 (by decide) ?_
                            have hJ := hI_109.c (fun y _ => (show bnst B N1 x y + bnin B N1 x (bil B x) y = bnst B N1 (x + 1) y from rfl))
                            exact ih_96 (by omega) _ _ _ _ _ ⟨X3, p3, rfl, rfl, hP, hD, hS, lv_sub hl [1, 2, 3, 0] rfl, hJ⟩
                          · have hia := hB.ia hx0 (show i < bil B x by omega)
                            have hX3 := hI_109.1 (bia B x i) (by omega)
                            have hN1 := hI_62.1 x (by omega)
                            refine lv_aload_n hx hb dX3_layNumbers_122 rfl (lv_at hl 0 rfl) ?_
                            refine va_get (D := g.1) (ci := 3) (v := .ref (ad 4)) (C := RX3) (T := TX3) (N := 30) hx hb hts in_X3 hown hK hP 0 rfl rfl 4 (by decide) (hts _ q1301) (fun _ h9 => h9) rfl dX3_layNumbers_123 ?_
                            refine lv_iload_n hx hb dX3_layNumbers_126 rfl (lv_at hl 3 rfl) ?_
                            refine lv_iload hx hb dX3_layNumbers_127 (lv_at hl 4 rfl) ?_
                            have hQ_129 : va_P g.1 zCL [(ad 4, .inl (g.2 0, 44, .inl (cn 4)))] _ := hP.sub [4] rfl
                            rw [show _ = _ from hc4] at hQ_129
                            refine vp_callSi (W.runS (As := [.ref (ad 4), .int (nI x), .int (nI i)]) (rest := []) ⟨hx, hb, hml, hown, hts⟩ (m_X3_imageAt l g (ad 4) B x i (by omega) (by first | assumption | omega | exact (hB.kd (by omega)).2) (by first | assumption | omega | exact (hB.wl (by omega)).2) (by first | assumption | omega)) (va_cwS 3 hts (lw_S q1542 q1543 q69 q1544) rfl rfl rfl hdS_X3_imageAt ⟨Nat.le_of_ble_eq_true rfl, Nat.le_of_ble_eq_true rfl⟩) (zpreS hK hN hQ_129) rfl rfl hl.1 rfl (lv_room (Nat.le_of_ble_eq_true rfl)) dX3_layNumbers_129 ⟨Nat.le_of_ble_eq_true rfl, Nat.le_of_ble_eq_true rfl⟩) (fun r_129 hr_129 => ?_)
                            subst hr_129
                            refine lv_istore (lv' := [(5, .int (nI (bia B x i))), (0, .ref (ad 0)), (1, .int (nI n)), (2, .int (nI k)), (3, .int (nI x)), (4, .int (nI i))]) hx hb dX3_layNumbers_132 hl (by decide) rfl (fun ls hl => ?_)
                            refine lv_aload_n hx hb dX3_layNumbers_134 rfl (lv_at hl 1 rfl) ?_
                            refine va_get (D := g.1) (ci := 3) (v := .ref (ad 22)) (C := RX3) (T := TX3) (N := 30) hx hb hts in_X3 hown hK hP 0 rfl rfl 22 (by decide) (hts _ q1319) (fun _ h9 => h9) rfl dX3_layNumbers_135 ?_
                            refine lv_iload hx hb dX3_layNumbers_138 (lv_at hl 0 rfl) ?_
                            refine lv_aload_n hx hb dX3_layNumbers_140 rfl (lv_at hl 1 rfl) ?_
                            refine lv_aload_n hx hb dX3_layNumbers_141 rfl (lv_at hl 1 rfl) ?_
                            refine va_get (D := g.1) (ci := 3) (v := .ref (ad 22)) (C := RX3) (T := TX3) (N := 30) hx hb hts in_X3 hown hK hP 0 rfl rfl 22 (by decide) (hts _ q1319) (fun _ h9 => h9) rfl dX3_layNumbers_142 ?_
                            refine lv_iload hx hb dX3_layNumbers_145 (lv_at hl 0 rfl) ?_
                            refine zall hx hb hK hP 12 1 rfl rfl (j := bia B x i) (by omega) (by decide) dX3_layNumbers_147 ?_
                            refine ztl (show (lF X3) (bia B x i) = lN (X3 (bia B x i)) from rfl) ?_
                            refine lv_aload_n hx hb dX3_layNumbers_148 rfl (lv_at hl 1 rfl) ?_
                            refine va_get (D := g.1) (ci := 3) (v := .ref (ad 21)) (C := RX3) (T := TX3) (N := 30) hx hb hts in_X3 hown hK hP 0 rfl rfl 21 (by decide) (hts _ q1318) (fun _ h9 => h9) rfl dX3_layNumbers_149 ?_
                            refine lv_iload_n hx hb dX3_layNumbers_152 rfl (lv_at hl 4 rfl) ?_
                            refine zall hx hb hK hP 11 1 rfl rfl (j := x) (by omega) (by decide) dX3_layNumbers_153 ?_
                            refine ztl (show (lF N1) x = lN (N1 x) from rfl) ?_
                            have hle_154 := hS.1
                            refine va_calll (va_runV (As := [.long (lN (X3 (bia B x i))), .long (lN (N1 x))]) (rest := [.int (nI (bia B x i)), .ref (ad 22)]) ⟨hx, hb, hml, hown, hts⟩ (m_X3_plus l g ad (va_up fi 23 (zB p3)) cn (va_up (va_up xl 21 (lF N1)) 22 (lF X3)) _ p3 rfl (X3 (bia B x i)) (N1 x) (by omega) (by omega)) (cwV 2 hts (lw_V q1586 q1588 qs47 q69 q1589) rfl rfl rfl hdV_X3_plus ⟨Nat.le_of_ble_eq_true rfl, Nat.le_of_ble_eq_true rfl⟩) (zpreV hK hN (va_recv hK hP (ci := 3) (q0 := 0) rfl rfl) ⟨rfl, hP, hD.weaken (fun _ _ _ _ => trivial)⟩) rfl rfl hl.1 rfl (lv_room (Nat.le_of_ble_eq_true rfl)) dX3_layNumbers_154 ⟨Nat.le_of_ble_eq_true rfl, Nat.le_of_ble_eq_true rfl⟩) hS (fun q _ h => mA_le hS.1 q h) (mA_le hS.1) (fun r_154 u t H locs ht hvm hw_154 hB hzz hkk hS => ?_)
                            obtain ⟨hP, hD⟩ := hB
                            rw [ht] at hP
                            have hD := hD.weaken (fun _ _ _ h => mA_le hle_154 _ h)
                            obtain ⟨rfl, rfl⟩ := hw_154
                            have hP : va_P g.1 zCL (mW g ad (va_up fi 23 (zB (p3 ∨ 2 ^ 63 ≤ (X3 (bia B x i)) + (N1 x)))) cn (va_up (va_up xl 21 (lF N1)) 22 (lF X3))) _ := hP
                            have hD : va_D (mA ad s.heap.size) (mW g ad (va_up fi 23 (zB (p3 ∨ 2 ^ 63 ≤ (X3 (bia B x i)) + (N1 x)))) cn (va_up (va_up xl 21 (lF N1)) 22 (lF X3))) := hD
                            refine zasl (f := lF X3) hx hb hK hP hD hS 12 1 rfl rfl (j := bia B x i) (by omega) (by decide) dX3_layNumbers_157 (fun H locs hP hD hS => ?_)
                            rw [lF_up] at hP hD
                            have hP : va_P g.1 zCL (mW g ad (va_up fi 23 (zB (p3 ∨ 2 ^ 63 ≤ (X3 (bia B x i)) + (N1 x)))) cn (va_up (va_up xl 21 (lF N1)) 22 (lF (va_up X3 (bia B x i) (zif (p3 ∨ 2 ^ 63 ≤ (X3 (bia B x i)) + (N1 x)) 0 ((X3 (bia B x i)) + (N1 x))))))) _ := hP
                            have hD : va_D (mA ad s.heap.size) (mW g ad (va_up fi 23 (zB (p3 ∨ 2 ^ 63 ≤ (X3 (bia B x i)) + (N1 x)))) cn (va_up (va_up xl 21 (lF N1)) 22 (lF (va_up X3 (bia B x i) (zif (p3 ∨ 2 ^ 63 ≤ (X3 (bia B x i)) + (N1 x)) 0 ((X3 (bia B x i)) + (N1 x))))))) := hD
                            refine lv_iinc (v := nI (i + 1)) (lv' := [(4, .int (nI (i + 1))), (5, .int (nI (bia B x i))), (0, .ref (ad 0)), (1, .int (nI n)), (2, .int (nI k)), (3, .int (nI x))]) hx hb dX3_layNumbers_158 hl (k := 5) rfl (nI_add i 1) (by decide) rfl (fun ls hl => ?_)
                            refine lv_goto (tgt := 109) hx hb dX3_layNumbers_161 (by decide) ?_
                            have hJ := hI_109.step (show bia B x i < 4 by omega) (hI_62.1 x (by omega))
                            have hJ := hJ.c (fun y _ => (Nat.add_assoc _ _ _ : _ = bnst B N1 x y + bnin B N1 x (i + 1) y))
                            exact ih_109 (by omega) _ _ _ _ _ ⟨va_up X3 (bia B x i) (zif (p3 ∨ 2 ^ 63 ≤ (X3 (bia B x i)) + (N1 x)) 0 ((X3 (bia B x i)) + (N1 x))), p3 ∨ 2 ^ 63 ≤ (X3 (bia B x i)) + (N1 x), rfl, rfl, hP, hD, hS, lv_sub hl [2, 3, 4, 5, 0] rfl, hJ⟩
                        · have hP : va_P g.1 zCL (mW g ad (va_up fi 23 (zB p2)) cn (va_up (va_up xl 21 (lF N1)) 22 (lF X2))) _ := hP
                          have hD : va_D (mA ad s.heap.size) (mW g ad (va_up fi 23 (zB p2)) cn (va_up (va_up xl 21 (lF N1)) 22 (lF X2))) := hD
                          exact ⟨X2, p2, rfl, rfl, hP, hD, hS, lv_sub hl [1, 2, 3, 4, 0] rfl, hI_96.c (fun y _ => rfl)⟩
                    · have hP : va_P g.1 zCL (mW g ad (va_up fi 23 (zB p1)) cn (va_up (va_up xl 21 (lF N1)) 22 (lF (va_cpy (fun _ => 0) X1 0 0 4)))) _ := hP
                      have hD : va_D (mA ad s.heap.size) (mW g ad (va_up fi 23 (zB p1)) cn (va_up (va_up xl 21 (lF N1)) 22 (lF (va_cpy (fun _ => 0) X1 0 0 4)))) := hD
                      exact ⟨va_cpy (fun _ => 0) X1 0 0 4, p1, rfl, rfl, hP, hD, hS, lv_sub hl [1, 2, 3, 0] rfl, bJ.z (fun y hy => zcpy_in (by omega) (by omega)) (fun _ _ => rfl) c_71⟩
                  · refine lv_aload_n hx hb dX3_layNumbers_81 rfl (lv_at hl 0 rfl) ?_
                    refine va_get (D := g.1) (ci := 3) (v := .ref (ad 22)) (C := RX3) (T := TX3) (N := 30) hx hb hts in_X3 hown hK hP 0 rfl rfl 22 (by decide) (hts _ q1319) (fun _ h9 => h9) rfl dX3_layNumbers_82 ?_
                    refine lv_iload_n hx hb dX3_layNumbers_85 rfl (lv_at hl 3 rfl) ?_
                    refine lv_lconst (v := lN 0) hx hb dX3_layNumbers_86 (by decide) ?_
                    refine zasl (f := lF (va_cpy (fun _ => 0) X1 0 0 y)) hx hb hK hP hD hS 12 1 rfl rfl (j := y) (by omega) (by decide) dX3_layNumbers_87 (fun H locs hP hD hS => ?_)
                    rw [lF_up] at hP hD
                    have hP : va_P g.1 zCL (mW g ad (va_up fi 23 (zB p1)) cn (va_up (va_up xl 21 (lF N1)) 22 (lF (va_up (va_cpy (fun _ => 0) X1 0 0 y) y 0)))) _ := hP
                    have hD : va_D (mA ad s.heap.size) (mW g ad (va_up fi 23 (zB p1)) cn (va_up (va_up xl 21 (lF N1)) 22 (lF (va_up (va_cpy (fun _ => 0) X1 0 0 y) y 0)))) := hD
                    refine lv_iinc (v := nI (y + 1)) (lv' := [(3, .int (nI (y + 1))), (0, .ref (ad 0)), (1, .int (nI n)), (2, .int (nI k))]) hx hb dX3_layNumbers_88 hl (k := 3) rfl (nI_add y 1) (by decide) rfl (fun ls hl => ?_)
                    refine lv_goto (tgt := 76) hx hb dX3_layNumbers_91 (by decide) ?_
                    rw [show va_up (va_cpy (fun _ => 0) X1 0 0 y) y 0 = va_cpy (fun _ => 0) X1 0 0 (y + 1) by have h9 := zcpy_s (fun _ => 0) X1 0 0 y; rw [Nat.zero_add] at h9; exact h9] at hP hD
                    exact ih_76 (by omega) _ _ _ _ _ ⟨rfl, rfl, hP, hD, hS, lv_sub hl [1, 2, 3, 0] rfl⟩
                · rw [mW_upl (xl := va_up (va_up xl 21 (lF N1)) 22 (lF X1)) (k := 22) (f := lF (va_cpy (fun _ => 0) X1 0 0 0)) (by rw [zcpy_0]; try rfl)] at hP
                  rw [mW_upl (xl := va_up (va_up xl 21 (lF N1)) 22 (lF X1)) (k := 22) (f := lF (va_cpy (fun _ => 0) X1 0 0 0)) (by rw [zcpy_0]; try rfl)] at hD
                  have hP : va_P g.1 zCL (mW g ad (va_up fi 23 (zB p1)) cn (va_up (va_up xl 21 (lF N1)) 22 (lF (va_cpy (fun _ => 0) X1 0 0 0)))) _ := hP
                  have hD : va_D (mA ad s.heap.size) (mW g ad (va_up fi 23 (zB p1)) cn (va_up (va_up xl 21 (lF N1)) 22 (lF (va_cpy (fun _ => 0) X1 0 0 0)))) := hD
                  exact ⟨rfl, rfl, hP, hD, hS, lv_sub hl [1, 2, 3, 0] rfl⟩
          · rw [mW_upl (xl := va_up xl 21 (lF (fun y => zsum (fun j => zif (B (4 + j) = y) 1 0) (B 3)))) (k := 22) (f := lF X) (hc22)] at hP
            rw [mW_upl (xl := va_up xl 21 (lF (fun y => zsum (fun j => zif (B (4 + j) = y) 1 0) (B 3)))) (k := 22) (f := lF X) (hc22)] at hD
            have hP : va_P g.1 zCL (mW g ad (va_up fi 23 (zB False)) cn (va_up (va_up xl 21 (lF (fun y => zsum (fun j => zif (B (4 + j) = y) 1 0) (B 3)))) 22 (lF X))) _ := hP
            have hD : va_D (mA ad s.heap.size) (mW g ad (va_up fi 23 (zB False)) cn (va_up (va_up xl 21 (lF (fun y => zsum (fun j => zif (B (4 + j) = y) 1 0) (B 3)))) 22 (lF X))) := hD
            exact ⟨fun y => zsum (fun j => zif (B (4 + j) = y) 1 0) (B 3), X, False, rfl, rfl, hP, hD, hS, lv_sub hl [1, 2, 0] rfl, bK_0 hB id⟩
        · have hrw := hB.row (show k < B 3 by omega)
          refine lv_aload_n hx hb dX3_layNumbers_37 rfl (lv_at hl 0 rfl) ?_
          refine va_get (D := g.1) (ci := 3) (v := .ref (ad 21)) (C := RX3) (T := TX3) (N := 30) hx hb hts in_X3 hown hK hP 0 rfl rfl 21 (by decide) (hts _ q1318) (fun _ h9 => h9) rfl dX3_layNumbers_38 ?_
          refine lv_aload_n hx hb dX3_layNumbers_41 rfl (lv_at hl 0 rfl) ?_
          refine va_get (D := g.1) (ci := 3) (v := .ref (ad 4)) (C := RX3) (T := TX3) (N := 30) hx hb hts in_X3 hown hK hP 0 rfl rfl 4 (by decide) (hts _ q1301) (fun _ h9 => h9) rfl dX3_layNumbers_42 ?_
          refine lv_iconst (v := nI 4) hx hb dX3_layNumbers_45 (by decide) ?_
          refine lv_iload_n hx hb dX3_layNumbers_46 rfl (lv_at hl 2 rfl) ?_
          refine lv_iadd hx hb dX3_layNumbers_47 ?_
          refine zti (nI_add 4 k) ?_
          refine zald hx hb hK hP 4 0 rfl rfl (j := 4 + k) (by omega) (by decide) dX3_layNumbers_48 ?_
          refine zti (congrFun hc4 _) ?_
          refine zti (show (nF B) (4 + k) = nI (B (4 + k)) from rfl) ?_
          refine lv_dup2_11 hx hb dX3_layNumbers_49 rfl rfl ?_
          refine zall hx hb hK hP 11 1 rfl rfl (j := B (4 + k)) (by omega) (by decide) dX3_layNumbers_50 ?_
          refine ztl (show (lF (fun y => zsum (fun j => zif (B (4 + j) = y) 1 0) k)) (B (4 + k)) = lN ((fun y => zsum (fun j => zif (B (4 + j) = y) 1 0) k) (B (4 + k))) from rfl) ?_
          refine lv_lconst (v := lN 1) hx hb dX3_layNumbers_51 (by decide) ?_
          refine lv_ladd hx hb dX3_layNumbers_52 ?_
          refine ztl (lN_add ((fun y => zsum (fun j => zif (B (4 + j) = y) 1 0) k) (B (4 + k))) 1) ?_
          refine zasl (f := lF (fun y => zsum (fun j => zif (B (4 + j) = y) 1 0) k)) hx hb hK hP hD hS 11 1 rfl rfl (j := B (4 + k)) (by omega) (by decide) dX3_layNumbers_53 (fun H locs hP hD hS => ?_)
          rw [lF_up] at hP hD
          have hP : va_P g.1 zCL (mW g ad (va_up fi 23 (zB False)) cn (va_up xl 21 (lF (va_up (fun y => zsum (fun j => zif (B (4 + j) = y) 1 0) k) (B (4 + k)) ((fun y => zsum (fun j => zif (B (4 + j) = y) 1 0) k) (B (4 + k)) + 1))))) _ := hP
          have hD : va_D (mA ad s.heap.size) (mW g ad (va_up fi 23 (zB False)) cn (va_up xl 21 (lF (va_up (fun y => zsum (fun j => zif (B (4 + j) = y) 1 0) k) (B (4 + k)) ((fun y => zsum (fun j => zif (B (4 + j) = y) 1 0) k) (B (4 + k)) + 1))))) := hD
          refine lv_iinc (v := nI (k + 1)) (lv' := [(2, .int (nI (k + 1))), (0, .ref (ad 0)), (1, .int (nI n))]) hx hb dX3_layNumbers_54 hl (k := 2) rfl (nI_add k 1) (by decide) rfl (fun ls hl => ?_)
          refine lv_goto (tgt := 27) hx hb dX3_layNumbers_57 (by decide) ?_
          rw [show va_up (fun y => zsum (fun j => zif (B (4 + j) = y) 1 0) k) (B (4 + k)) (zsum (fun j => zif (B (4 + j) = B (4 + k)) 1 0) k + 1) = fun y => zsum (fun j => zif (B (4 + j) = y) 1 0) (k + 1) from bn0_s B k] at hP hD
          exact ih_27 (by omega) _ _ _ _ _ ⟨rfl, rfl, hP, hD, hS, lv_sub hl [1, 2, 0] rfl⟩
      · exact ⟨rfl, rfl, hP, hD, hS, lv_sub hl [1, 2, 0] rfl⟩
    · refine lv_aload_n hx hb dX3_layNumbers_12 rfl (lv_at hl 0 rfl) ?_
      refine va_get (D := g.1) (ci := 3) (v := .ref (ad 21)) (C := RX3) (T := TX3) (N := 30) hx hb hts in_X3 hown hK hP 0 rfl rfl 21 (by decide) (hts _ q1318) (fun _ h9 => h9) rfl dX3_layNumbers_13 ?_
      refine lv_iload_n hx hb dX3_layNumbers_16 rfl (lv_at hl 2 rfl) ?_
      refine lv_lconst (v := lN 0) hx hb dX3_layNumbers_17 (by decide) ?_
      refine zasl (f := lF (va_cpy (fun _ => 0) N 0 0 k)) hx hb hK hP hD hS 11 1 rfl rfl (j := k) (by omega) (by decide) dX3_layNumbers_18 (fun H locs hP hD hS => ?_)
      rw [lF_up] at hP hD
      have hP : va_P g.1 zCL (mW g ad (va_up fi 23 (zB False)) cn (va_up xl 21 (lF (va_up (va_cpy (fun _ => 0) N 0 0 k) k 0)))) _ := hP
      have hD : va_D (mA ad s.heap.size) (mW g ad (va_up fi 23 (zB False)) cn (va_up xl 21 (lF (va_up (va_cpy (fun _ => 0) N 0 0 k) k 0)))) := hD
      refine lv_iinc (v := nI (k + 1)) (lv' := [(2, .int (nI (k + 1))), (0, .ref (ad 0)), (1, .int (nI n))]) hx hb dX3_layNumbers_19 hl (k := 2) rfl (nI_add k 1) (by decide) rfl (fun ls hl => ?_)
      refine lv_goto (tgt := 7) hx hb dX3_layNumbers_22 (by decide) ?_
      rw [show va_up (va_cpy (fun _ => 0) N 0 0 k) k 0 = va_cpy (fun _ => 0) N 0 0 (k + 1) by have h9 := zcpy_s (fun _ => 0) N 0 0 k; rw [Nat.zero_add] at h9; exact h9] at hP hD
      exact ih_7 (by omega) _ _ _ _ _ ⟨rfl, rfl, hP, hD, hS, lv_sub hl [1, 2, 0] rfl⟩
  · rw [mW_upl (xl := xl) (k := 21) (f := lF (va_cpy (fun _ => 0) N 0 0 0)) (by rw [zcpy_0]; exact hc21)] at hP
    rw [mW_upl (xl := xl) (k := 21) (f := lF (va_cpy (fun _ => 0) N 0 0 0)) (by rw [zcpy_0]; exact hc21)] at hD
    have hP : va_P g.1 zCL (mW g ad (va_up fi 23 (zB False)) cn (va_up xl 21 (lF (va_cpy (fun _ => 0) N 0 0 0)))) _ := hP
    have hD : va_D (mA ad s.heap.size) (mW g ad (va_up fi 23 (zB False)) cn (va_up xl 21 (lF (va_cpy (fun _ => 0) N 0 0 0)))) := hD
    exact ⟨rfl, rfl, hP, hD, hS, lv_sub hl [1, 2, 0] rfl⟩

set_option maxHeartbeats 4000000 in
set_option maxRecDepth 100000 in
theorem m_X3_numbers (l : Launch) (g : zG) (ad : Nat → Nat) (fi : Nat → Int32) (cn : Nat → Nat → Int32) (xl : Nat → Nat → Int64) (sz : Nat) (S : zS) (hM : MR S fi cn) (hX : MX fi cn xl) (hI : SI S) (s2 n2 : Int32) : Met l yX3_numbers (ws_ yX3_numbers cX3_numbers 3 (some .long)) ({ frames := 3, cells := 0, slots := 0, locals := 70 }) (zPc g [.ref (ad 0), .int s2, .int n2] (mH g ad fi cn xl sz)) (va_Ql (fun (r9 : Int64) u => r9 = (opNumbers S s2 n2 ).1 ∧ MR (opNumbers S s2 n2 ).2 u.1 u.2.1 ∧ MX u.1 u.2.1 u.2.2) (mB g ad sz) (mA ad sz)) 0 0 (mA ad sz) := by
  refine Met.ofW (cc := cX3_numbers) (maxL := 3) (ret := (some .long)) (by decide) rfl ?_
  intro p e s m args below meth c s₁ B0 hml hv
  obtain ⟨rfl, ⟨hK, hN⟩, hsz, hP, hD⟩ := hv
  have hx := B0.exec
  have hb := B0.bytes
  have hr := B0.returns
  have hts := atoms_spec (ws := ws_ yX3_numbers cX3_numbers 3 (some .long)) B0.pre
  have hts : ∀ w ∈ lw_all, w.before _ s = true := fun w h => hts w (List.mem_cons_of_mem _ h)
  have hown : s.vm.findClass RX3 = some m.cls := findClass_of_methodNamed B0.named
  have hlocks := B0.notSynchronized
  subst hsz
  have hD := mD_self s.heap.size hD
  have hS : va_S (mA ad s.heap.size) s.heap s.heap [] := va_S.rf
  have hl := lv_entry ([.ref (ad 0), .int s2, .int n2]) (n := 3) (Nat.le_of_ble_eq_true rfl)
  rw [lg_entry_eq]
  generalize (lg_sl ([.ref (ad 0), .int s2, .int n2]) ++ List.replicate (3 - (lg_sl ([.ref (ad 0), .int s2, .int n2])).length) Slot.unset).toArray = ls at hl ⊢
  have hl : lv_has ls 3 [(0, .ref (ad 0)), (1, .int s2), (2, .int n2)] := hl
  obtain ⟨hf0, hf8, hf12, hf19, hf29, hc1, hc2, hc3, hc4, hc7, hc11, hc26, hc27, hc28⟩ := hM
  obtain ⟨F5, F6, F9, F10, F24, E25, N21, N22, b23, hc5, hc6, hc9, hc10, hc24, hc25, hc21, hc22, hf23⟩ := hX
  have hB : bOK (S.2.1 4) := hI.1
  have h0 : S.2.1 4 0 ≤ 4 := hB.n4
  have h3 : S.2.1 4 3 ≤ 8 := hB.r8
  have hac := hI.2.2.1
  have hta := hI.2.2.2.1
  have hmn := hI.2.2.2.2.2.2.1
  have htn := hI.2.2.2.2.2.1
  refine lv_aload_n hx hb dX3_numbers_0 rfl (lv_at hl 0 rfl) ?_
  refine lv_iload_n hx hb dX3_numbers_1 rfl (lv_at hl 1 rfl) ?_
  have hQ_2 : va_P g.1 zCL [(ad 0, .inr (3, mO ad fi)), (ad 4, .inl (g.2 0, 44, .inl (cn 4)))] _ := hP.sub [0, 4] rfl
  rw [show _ = _ from hc4] at hQ_2
  refine vp_callSi (W.runV (As := [.int s2]) (rest := []) ⟨hx, hb, hml, hown, hts⟩ (m_X3_isSort l g ad fi (S.2.1 4) hB s2) (cwV 1 hts (lw_V q1480 q1482 qs39 q69 q1483) rfl rfl rfl hdV_X3_isSort ⟨Nat.le_of_ble_eq_true rfl, Nat.le_of_ble_eq_true rfl⟩) (zpreV hK hN (va_recv hK hP (ci := 3) (q0 := 0) rfl rfl) hQ_2) rfl rfl hl.1 rfl (lv_room (Nat.le_of_ble_eq_true rfl)) dX3_numbers_2 ⟨Nat.le_of_ble_eq_true rfl, Nat.le_of_ble_eq_true rfl⟩) (fun r_2 hr_2 => ?_)
  subst hr_2
  refine zi_eqB (tgt := 20) hx hb dX3_numbers_5 (by decide) (fun c_5 => ?_) (fun c_5 => ?_)
  · refine lv_ldc2 hx hb hown (hts _ q1571) dX3_numbers_20 ?_
    exact W.lret (v := -1000001) hx hb hr (fun t ht hW => ⟨⟨-1000001, (fi, cn, xl), rfl, (by unfold opNumbers; rw [zif_f c_5]; exact ⟨rfl, ⟨hf0, hf8, hf12, hf19, hf29, hc1, hc2, hc3, hc4, hc7, hc11, hc26, hc27, hc28⟩, ⟨_, _, _, _, _, _, _, _, _, hc5, hc6, hc9, hc10, hc24, hc25, hc21, hc22, hf23⟩⟩), by rw [ht]; exact hP, hD⟩, hS.F ht⟩) hS.2.2 dX3_numbers_23
  · refine lv_iload_n hx hb dX3_numbers_8 rfl (lv_at hl 2 rfl) ?_
    refine lv_i2l hx hb dX3_numbers_9 rfl ?_
    refine lv_lconst (v := lN 0) hx hb dX3_numbers_10 (by decide) ?_
    refine lv_ldc2 hx hb hown (hts _ q1581) dX3_numbers_11 ?_
    refine ztl (show (60 : Int64) = lN 60 from rfl) ?_
    refine vp_callSi (W.runS (As := [.long n2.toInt64, .long (lN 0), .long (lN 60)]) (rest := []) ⟨hx, hb, hml, hown, hts⟩ (m_X3_in l g n2.toInt64 (lN 0) (lN 60)) (va_cwS 3 hts (lw_S q1397 q1398 q69 q1399) rfl rfl rfl hdS_X3_in ⟨Nat.le_of_ble_eq_true rfl, Nat.le_of_ble_eq_true rfl⟩) (zpreS hK hN trivial) rfl rfl hl.1 rfl (lv_room (Nat.le_of_ble_eq_true rfl)) dX3_numbers_14 ⟨Nat.le_of_ble_eq_true rfl, Nat.le_of_ble_eq_true rfl⟩) (fun r_14 hr_14 => ?_)
    subst hr_14
    refine zti (show _ = zB (zIn n2 0 60) from zB_c (zIn_l n2 (by omega) (by omega))) ?_
    refine zi_neB (tgt := 24) hx hb dX3_numbers_17 (by decide) (fun c_17 => ?_) (fun c_17 => ?_)
    · obtain ⟨x, rfl, hu_x, hv_x⟩ := zIn_ex c_5 (by omega)
      obtain ⟨n, rfl, hu_n, hv_n⟩ := zIn_ex c_17 (by omega)
      have hx0 : x < S.2.1 4 0 := by omega
      refine lv_aload_n hx hb dX3_numbers_24 rfl (lv_at hl 0 rfl) ?_
      refine lv_iconst (v := nI 0) hx hb dX3_numbers_25 (by decide) ?_
      refine va_put (D := g.1) (ci := 3) (v := .int (nI 0)) (ty := .int) (C := RX3) (T := TX3) (N := 30) hx hb hts in_X3 tyX3 tyX3_ok nmX3 hown hK hP hD hS 0 rfl rfl 0 (by decide) (hts _ q1297) (fun _ h9 => h9) rfl (by decide +kernel) rfl rfl (Nat.le_of_ble_eq_true rfl) dX3_numbers_26 (fun H locs hP hD hS => ?_)
      have hP : va_P g.1 zCL (mW g ad (va_up fi 0 (nI 0)) cn xl) _ := hP
      have hD : va_D (mA ad s.heap.size) (mW g ad (va_up fi 0 (nI 0)) cn xl) := hD
      refine lv_aload_n hx hb dX3_numbers_29 rfl (lv_at hl 0 rfl) ?_
      refine lv_iload_n hx hb dX3_numbers_30 rfl (lv_at hl 2 rfl) ?_
      have hle_31 := hS.1
      refine va_callv (va_runV (As := [.int (nI n)]) (rest := []) ⟨hx, hb, hml, hown, hts⟩ (m_X3_layNumbers l g ad (va_up fi 0 (nI 0)) cn xl _ (S.2.1 4) N21 N22 hc4 hc21 hc22 hB n (by omega)) (cwV 1 hts (lw_V q1582 q1584 qs46 q69 q1585) rfl rfl rfl hdV_X3_layNumbers ⟨Nat.le_of_ble_eq_true rfl, Nat.le_of_ble_eq_true rfl⟩) (zpreV hK hN (va_recv hK hP (ci := 3) (q0 := 0) rfl rfl) ⟨rfl, hP, hD.weaken (fun _ _ _ _ => trivial)⟩) rfl rfl hl.1 rfl (lv_room (Nat.le_of_ble_eq_true rfl)) dX3_numbers_31 ⟨Nat.le_of_ble_eq_true rfl, Nat.le_of_ble_eq_true rfl⟩) hS (fun q _ h => mA_le hS.1 q h) (mA_le hS.1) (fun u t H locs ht hvm hw_31 hB hzz hkk hS => ?_)
      obtain ⟨hP, hD⟩ := hB
      rw [ht] at hP
      have hD := hD.weaken (fun _ _ _ h => mA_le hle_31 _ h)
      obtain ⟨_, Nu, Xu, pu, rfl, hNM_34⟩ := hw_31
      have hP : va_P g.1 zCL (mW g ad (va_up (va_up fi 0 (nI 0)) 23 (zB pu)) cn (va_up (va_up xl 21 (lF Nu)) 22 (lF Xu))) _ := hP
      have hD : va_D (mA ad s.heap.size) (mW g ad (va_up (va_up fi 0 (nI 0)) 23 (zB pu)) cn (va_up (va_up xl 21 (lF Nu)) 22 (lF Xu))) := hD
      refine lv_aload_n hx hb dX3_numbers_34 rfl (lv_at hl 0 rfl) ?_
      refine va_get (D := g.1) (ci := 3) (v := .int (zB pu)) (C := RX3) (T := TX3) (N := 30) hx hb hts in_X3 hown hK hP 0 rfl rfl 23 (by decide) (hts _ q1320) (fun _ h9 => h9) rfl dX3_numbers_35 ?_
      refine zti (zB_c (hNM_34.2.1)) ?_
      refine zi_eqB (tgt := 51) hx hb dX3_numbers_38 (by decide) (fun c_38 => ?_) (fun c_38 => ?_)
      · have hnb := bnum_lt c_38 (show x < 4 by omega)
        refine lv_aload_n hx hb dX3_numbers_51 rfl (lv_at hl 0 rfl) ?_
        refine va_get (D := g.1) (ci := 3) (v := .ref (ad 21)) (C := RX3) (T := TX3) (N := 30) hx hb hts in_X3 hown hK hP 0 rfl rfl 21 (by decide) (hts _ q1318) (fun _ h9 => h9) rfl dX3_numbers_52 ?_
        refine lv_iload_n hx hb dX3_numbers_55 rfl (lv_at hl 1 rfl) ?_
        refine zall hx hb hK hP 11 1 rfl rfl (j := x) (by omega) (by decide) dX3_numbers_56 ?_
        refine ztl (show (lF Nu) x = lN (Nu x) from rfl) ?_
        refine ztl (show _ = lN (bnum (S.2.1 4) n x) from (congrArg lN (hNM_34.2.2 (fun z => c_38 (hNM_34.2.1.mp z)) x (by omega)))) ?_
        exact W.lret (v := lN (bnum (S.2.1 4) n x)) hx hb hr (fun t ht hW => ⟨⟨lN (bnum (S.2.1 4) n x), (va_up (va_up fi 0 (nI 0)) 23 (zB pu), cn, va_up (va_up xl 21 (lF Nu)) 22 (lF Xu)), rfl, (by unfold opNumbers; (try rw [zn_nI (n := x) (by omega)]); (try rw [zn_nI (n := n) (by omega)]); rw [zif_t c_5, zif_t c_17, zif_f c_38]; exact ⟨rfl, ⟨rfl, hf8, hf12, hf19, hf29, hc1, hc2, hc3, hc4, hc7, hc11, hc26, hc27, hc28⟩, ⟨_, _, _, _, _, _, _, _, _, hc5, hc6, hc9, hc10, hc24, hc25, rfl, rfl, rfl⟩⟩), by rw [ht]; exact hP, hD⟩, hS.F ht⟩) hS.2.2 dX3_numbers_57
      · refine lv_aload_n hx hb dX3_numbers_41 rfl (lv_at hl 0 rfl) ?_
        refine lv_bipush (v := nI 6) hx hb dX3_numbers_42 (by decide) ?_
        have hle_44 := hS.1
        refine va_calli (va_runV (As := [.int (nI 6)]) (rest := []) ⟨hx, hb, hml, hown, hts⟩ (m_X3_finding l g ad (va_up (va_up fi 0 (nI 0)) 23 (zB pu)) cn (va_up (va_up xl 21 (lF Nu)) 22 (lF Xu)) _ 6) (cwV 1 hts (lw_V q1402 q1404 qs31 q69 q1405) rfl rfl rfl hdV_X3_finding ⟨Nat.le_of_ble_eq_true rfl, Nat.le_of_ble_eq_true rfl⟩) (zpreV hK hN (va_recv hK hP (ci := 3) (q0 := 0) rfl rfl) ⟨rfl, hP, hD.weaken (fun _ _ _ _ => trivial)⟩) rfl rfl hl.1 rfl (lv_room (Nat.le_of_ble_eq_true rfl)) dX3_numbers_44 ⟨Nat.le_of_ble_eq_true rfl, Nat.le_of_ble_eq_true rfl⟩) hS (fun q _ h => mA_le hS.1 q h) (mA_le hS.1) (fun r_44 u t H locs ht hvm hw_44 hB hzz hkk hS => ?_)
        obtain ⟨hP, hD⟩ := hB
        rw [ht] at hP
        have hD := hD.weaken (fun _ _ _ h => mA_le hle_44 _ h)
        obtain ⟨rfl, rfl⟩ := hw_44
        have hP : va_P g.1 zCL (mW g ad (va_up (va_up fi 0 (nI 6)) 23 (zB pu)) cn (va_up (va_up xl 21 (lF Nu)) 22 (lF Xu))) _ := hP
        have hD : va_D (mA ad s.heap.size) (mW g ad (va_up (va_up fi 0 (nI 6)) 23 (zB pu)) cn (va_up (va_up xl 21 (lF Nu)) 22 (lF Xu))) := hD
        refine lv_i2l hx hb dX3_numbers_47 rfl ?_
        refine lv_goto (tgt := 57) hx hb dX3_numbers_48 (by decide) ?_
        exact W.lret (v := (-1000010 - nI 6).toInt64) hx hb hr (fun t ht hW => ⟨⟨(-1000010 - nI 6).toInt64, (va_up (va_up fi 0 (nI 6)) 23 (zB pu), cn, va_up (va_up xl 21 (lF Nu)) 22 (lF Xu)), rfl, (by unfold opNumbers; (try rw [zn_nI (n := x) (by omega)]); (try rw [zn_nI (n := n) (by omega)]); rw [zif_t c_5, zif_t c_17, zif_t c_38]; exact ⟨rfl, ⟨rfl, hf8, hf12, hf19, hf29, hc1, hc2, hc3, hc4, hc7, hc11, hc26, hc27, hc28⟩, ⟨_, _, _, _, _, _, _, _, _, hc5, hc6, hc9, hc10, hc24, hc25, rfl, rfl, rfl⟩⟩), by rw [ht]; exact hP, hD⟩, hS.F ht⟩) hS.2.2 dX3_numbers_57
    · refine lv_ldc2 hx hb hown (hts _ q1571) dX3_numbers_20 ?_
      exact W.lret (v := -1000001) hx hb hr (fun t ht hW => ⟨⟨-1000001, (fi, cn, xl), rfl, (by unfold opNumbers; rw [zif_t c_5, zif_f c_17]; exact ⟨rfl, ⟨hf0, hf8, hf12, hf19, hf29, hc1, hc2, hc3, hc4, hc7, hc11, hc26, hc27, hc28⟩, ⟨_, _, _, _, _, _, _, _, _, hc5, hc6, hc9, hc10, hc24, hc25, hc21, hc22, hf23⟩⟩), by rw [ht]; exact hP, hD⟩, hS.F ht⟩) hS.2.2 dX3_numbers_23

set_option maxHeartbeats 4000000 in
set_option maxRecDepth 100000 in
theorem m_X3_share (l : Launch) (g : zG) (ad : Nat → Nat) (fi : Nat → Int32) (cn : Nat → Nat → Int32) (xl : Nat → Nat → Int64) (sz : Nat) (S : zS) (hM : MR S fi cn) (hX : MX fi cn xl) (hI : SI S) (s2 n2 w2 : Int32) : Met l yX3_share (ws_ yX3_share cX3_share 7 (some .long)) ({ frames := 3, cells := 0, slots := 0, locals := 70 }) (zPc g [.ref (ad 0), .int s2, .int n2, .int w2] (mH g ad fi cn xl sz)) (va_Ql (fun (r9 : Int64) u => r9 = (opShare S s2 n2 w2 ).1 ∧ MR (opShare S s2 n2 w2 ).2 u.1 u.2.1 ∧ MX u.1 u.2.1 u.2.2) (mB g ad sz) (mA ad sz)) 0 0 (mA ad sz) := by
  refine Met.ofW (cc := cX3_share) (maxL := 7) (ret := (some .long)) (by decide) rfl ?_
  intro p e s m args below meth c s₁ B0 hml hv
  obtain ⟨rfl, ⟨hK, hN⟩, hsz, hP, hD⟩ := hv
  have hx := B0.exec
  have hb := B0.bytes
  have hr := B0.returns
  have hts := atoms_spec (ws := ws_ yX3_share cX3_share 7 (some .long)) B0.pre
  have hts : ∀ w ∈ lw_all, w.before _ s = true := fun w h => hts w (List.mem_cons_of_mem _ h)
  have hown : s.vm.findClass RX3 = some m.cls := findClass_of_methodNamed B0.named
  have hlocks := B0.notSynchronized
  subst hsz
  have hD := mD_self s.heap.size hD
  have hS : va_S (mA ad s.heap.size) s.heap s.heap [] := va_S.rf
  have hl := lv_entry ([.ref (ad 0), .int s2, .int n2, .int w2]) (n := 7) (Nat.le_of_ble_eq_true rfl)
  rw [lg_entry_eq]
  generalize (lg_sl ([.ref (ad 0), .int s2, .int n2, .int w2]) ++ List.replicate (7 - (lg_sl ([.ref (ad 0), .int s2, .int n2, .int w2])).length) Slot.unset).toArray = ls at hl ⊢
  have hl : lv_has ls 7 [(0, .ref (ad 0)), (1, .int s2), (2, .int n2), (3, .int w2)] := hl
  obtain ⟨hf0, hf8, hf12, hf19, hf29, hc1, hc2, hc3, hc4, hc7, hc11, hc26, hc27, hc28⟩ := hM
  obtain ⟨F5, F6, F9, F10, F24, E25, N21, N22, b23, hc5, hc6, hc9, hc10, hc24, hc25, hc21, hc22, hf23⟩ := hX
  have hB : bOK (S.2.1 4) := hI.1
  have h0 : S.2.1 4 0 ≤ 4 := hB.n4
  have h3 : S.2.1 4 3 ≤ 8 := hB.r8
  have hac := hI.2.2.1
  have hta := hI.2.2.2.1
  have hmn := hI.2.2.2.2.2.2.1
  have htn := hI.2.2.2.2.2.1
  refine lv_aload_n hx hb dX3_share_0 rfl (lv_at hl 0 rfl) ?_
  refine lv_iload_n hx hb dX3_share_1 rfl (lv_at hl 1 rfl) ?_
  have hQ_2 : va_P g.1 zCL [(ad 0, .inr (3, mO ad fi)), (ad 4, .inl (g.2 0, 44, .inl (cn 4)))] _ := hP.sub [0, 4] rfl
  rw [show _ = _ from hc4] at hQ_2
  refine vp_callSi (W.runV (As := [.int s2]) (rest := []) ⟨hx, hb, hml, hown, hts⟩ (m_X3_isSort l g ad fi (S.2.1 4) hB s2) (cwV 1 hts (lw_V q1480 q1482 qs39 q69 q1483) rfl rfl rfl hdV_X3_isSort ⟨Nat.le_of_ble_eq_true rfl, Nat.le_of_ble_eq_true rfl⟩) (zpreV hK hN (va_recv hK hP (ci := 3) (q0 := 0) rfl rfl) hQ_2) rfl rfl hl.1 rfl (lv_room (Nat.le_of_ble_eq_true rfl)) dX3_share_2 ⟨Nat.le_of_ble_eq_true rfl, Nat.le_of_ble_eq_true rfl⟩) (fun r_2 hr_2 => ?_)
  subst hr_2
  refine zi_eqB (tgt := 30) hx hb dX3_share_5 (by decide) (fun c_5 => ?_) (fun c_5 => ?_)
  · refine lv_ldc2 hx hb hown (hts _ q1571) dX3_share_30 ?_
    exact W.lret (v := -1000001) hx hb hr (fun t ht hW => ⟨⟨-1000001, (fi, cn, xl), rfl, (by unfold opShare; rw [zif_f c_5]; exact ⟨rfl, ⟨hf0, hf8, hf12, hf19, hf29, hc1, hc2, hc3, hc4, hc7, hc11, hc26, hc27, hc28⟩, ⟨_, _, _, _, _, _, _, _, _, hc5, hc6, hc9, hc10, hc24, hc25, hc21, hc22, hf23⟩⟩), by rw [ht]; exact hP, hD⟩, hS.F ht⟩) hS.2.2 dX3_share_33
  · refine lv_iload_n hx hb dX3_share_8 rfl (lv_at hl 2 rfl) ?_
    refine lv_i2l hx hb dX3_share_9 rfl ?_
    refine lv_lconst (v := lN 0) hx hb dX3_share_10 (by decide) ?_
    refine lv_ldc2 hx hb hown (hts _ q1581) dX3_share_11 ?_
    refine ztl (show (60 : Int64) = lN 60 from rfl) ?_
    refine vp_callSi (W.runS (As := [.long n2.toInt64, .long (lN 0), .long (lN 60)]) (rest := []) ⟨hx, hb, hml, hown, hts⟩ (m_X3_in l g n2.toInt64 (lN 0) (lN 60)) (va_cwS 3 hts (lw_S q1397 q1398 q69 q1399) rfl rfl rfl hdS_X3_in ⟨Nat.le_of_ble_eq_true rfl, Nat.le_of_ble_eq_true rfl⟩) (zpreS hK hN trivial) rfl rfl hl.1 rfl (lv_room (Nat.le_of_ble_eq_true rfl)) dX3_share_14 ⟨Nat.le_of_ble_eq_true rfl, Nat.le_of_ble_eq_true rfl⟩) (fun r_14 hr_14 => ?_)
    subst hr_14
    refine zti (show _ = zB (zIn n2 0 60) from zB_c (zIn_l n2 (by omega) (by omega))) ?_
    refine zi_eqB (tgt := 30) hx hb dX3_share_17 (by decide) (fun c_17 => ?_) (fun c_17 => ?_)
    · refine lv_ldc2 hx hb hown (hts _ q1571) dX3_share_30 ?_
      exact W.lret (v := -1000001) hx hb hr (fun t ht hW => ⟨⟨-1000001, (fi, cn, xl), rfl, (by unfold opShare; rw [zif_t c_5, zif_f c_17]; exact ⟨rfl, ⟨hf0, hf8, hf12, hf19, hf29, hc1, hc2, hc3, hc4, hc7, hc11, hc26, hc27, hc28⟩, ⟨_, _, _, _, _, _, _, _, _, hc5, hc6, hc9, hc10, hc24, hc25, hc21, hc22, hf23⟩⟩), by rw [ht]; exact hP, hD⟩, hS.F ht⟩) hS.2.2 dX3_share_33
    · refine lv_iload_n hx hb dX3_share_20 rfl (lv_at hl 3 rfl) ?_
      refine lv_i2l hx hb dX3_share_21 rfl ?_
      refine lv_lconst (v := lN 0) hx hb dX3_share_22 (by decide) ?_
      refine lv_lconst (v := lN 1) hx hb dX3_share_23 (by decide) ?_
      refine vp_callSi (W.runS (As := [.long w2.toInt64, .long (lN 0), .long (lN 1)]) (rest := []) ⟨hx, hb, hml, hown, hts⟩ (m_X3_in l g w2.toInt64 (lN 0) (lN 1)) (va_cwS 3 hts (lw_S q1397 q1398 q69 q1399) rfl rfl rfl hdS_X3_in ⟨Nat.le_of_ble_eq_true rfl, Nat.le_of_ble_eq_true rfl⟩) (zpreS hK hN trivial) rfl rfl hl.1 rfl (lv_room (Nat.le_of_ble_eq_true rfl)) dX3_share_24 ⟨Nat.le_of_ble_eq_true rfl, Nat.le_of_ble_eq_true rfl⟩) (fun r_24 hr_24 => ?_)
      subst hr_24
      refine zti (show _ = zB (zIn w2 0 1) from zB_c (zIn_l w2 (by omega) (by omega))) ?_
      refine zi_neB (tgt := 34) hx hb dX3_share_27 (by decide) (fun c_27 => ?_) (fun c_27 => ?_)
      · obtain ⟨x, rfl, hu_x, hv_x⟩ := zIn_ex c_5 (by omega)
        obtain ⟨n, rfl, hu_n, hv_n⟩ := zIn_ex c_17 (by omega)
        obtain ⟨w, rfl, hu_w, hv_w⟩ := zIn_ex c_27 (by omega)
        have hx0 : x < S.2.1 4 0 := by omega
        refine lv_aload_n hx hb dX3_share_34 rfl (lv_at hl 0 rfl) ?_
        refine lv_iconst (v := nI 0) hx hb dX3_share_35 (by decide) ?_
        refine va_put (D := g.1) (ci := 3) (v := .int (nI 0)) (ty := .int) (C := RX3) (T := TX3) (N := 30) hx hb hts in_X3 tyX3 tyX3_ok nmX3 hown hK hP hD hS 0 rfl rfl 0 (by decide) (hts _ q1297) (fun _ h9 => h9) rfl (by decide +kernel) rfl rfl (Nat.le_of_ble_eq_true rfl) dX3_share_36 (fun H locs hP hD hS => ?_)
        have hP : va_P g.1 zCL (mW g ad (va_up fi 0 (nI 0)) cn xl) _ := hP
        have hD : va_D (mA ad s.heap.size) (mW g ad (va_up fi 0 (nI 0)) cn xl) := hD
        refine lv_aload_n hx hb dX3_share_39 rfl (lv_at hl 0 rfl) ?_
        refine lv_iload_n hx hb dX3_share_40 rfl (lv_at hl 2 rfl) ?_
        have hle_41 := hS.1
        refine va_callv (va_runV (As := [.int (nI n)]) (rest := []) ⟨hx, hb, hml, hown, hts⟩ (m_X3_layNumbers l g ad (va_up fi 0 (nI 0)) cn xl _ (S.2.1 4) N21 N22 hc4 hc21 hc22 hB n (by omega)) (cwV 1 hts (lw_V q1582 q1584 qs46 q69 q1585) rfl rfl rfl hdV_X3_layNumbers ⟨Nat.le_of_ble_eq_true rfl, Nat.le_of_ble_eq_true rfl⟩) (zpreV hK hN (va_recv hK hP (ci := 3) (q0 := 0) rfl rfl) ⟨rfl, hP, hD.weaken (fun _ _ _ _ => trivial)⟩) rfl rfl hl.1 rfl (lv_room (Nat.le_of_ble_eq_true rfl)) dX3_share_41 ⟨Nat.le_of_ble_eq_true rfl, Nat.le_of_ble_eq_true rfl⟩) hS (fun q _ h => mA_le hS.1 q h) (mA_le hS.1) (fun u t H locs ht hvm hw_41 hB hzz hkk hS => ?_)
        obtain ⟨hP, hD⟩ := hB
        rw [ht] at hP
        have hD := hD.weaken (fun _ _ _ h => mA_le hle_41 _ h)
        obtain ⟨_, Nu, Xu, pu, rfl, hNM_44⟩ := hw_41
        have hP : va_P g.1 zCL (mW g ad (va_up (va_up fi 0 (nI 0)) 23 (zB pu)) cn (va_up (va_up xl 21 (lF Nu)) 22 (lF Xu))) _ := hP
        have hD : va_D (mA ad s.heap.size) (mW g ad (va_up (va_up fi 0 (nI 0)) 23 (zB pu)) cn (va_up (va_up xl 21 (lF Nu)) 22 (lF Xu))) := hD
        refine lv_lconst (v := lN 0) hx hb dX3_share_44 (by decide) ?_
        refine lv_lstore (lv' := [(4, .long (lN 0)), (0, .ref (ad 0)), (1, .int (nI x)), (2, .int (nI n)), (3, .int (nI w))]) hx hb dX3_share_45 hl (by decide) rfl (fun ls hl => ?_)
        refine lv_iconst (v := nI 0) hx hb dX3_share_47 (by decide) ?_
        refine lv_istore (lv' := [(6, .int (nI 0)), (4, .long (lN 0)), (0, .ref (ad 0)), (1, .int (nI x)), (2, .int (nI n)), (3, .int (nI w))]) hx hb dX3_share_48 hl (by decide) rfl (fun ls hl => ?_)
        refine zloopW (head := 50) (4) (fun k H locs cells slots ls => ∃ (v0 : Nat) (p1 : Prop), cells = 0 ∧ slots = 0 ∧ va_P g.1 zCL (mW g ad (va_up (va_up fi 0 (nI 0)) 23 (zB p1)) cn (va_up (va_up xl 21 (lF Nu)) 22 (lF Xu))) H ∧ va_D (mA ad s.heap.size) (mW g ad (va_up (va_up fi 0 (nI 0)) 23 (zB p1)) cn (va_up (va_up xl 21 (lF Nu)) 22 (lF Xu))) ∧ va_S (mA ad s.heap.size) s.heap H locs ∧ lv_has ls 7 [(0, .ref (ad 0)), (1, .int (nI x)), (2, .int (nI n)), (3, .int (nI w)), (4, .long (lN v0)), (6, .int (nI k))] ∧ (bS (bbey (S.2.1 4) n) v0 p1 (btot (S.2.1 4) n k))) (fun k hv_k ih_50 H locs cells slots ls hI => ?_) 0 (Nat.zero_le _) ?_
        · obtain ⟨v0, p1, rfl, rfl, hP, hD, hS, hl, hI_50⟩ := hI
          refine lv_iload hx hb dX3_share_50 (lv_at hl 5 rfl) ?_
          refine lv_iconst (v := nI 4) hx hb dX3_share_52 (by decide) ?_
          refine zc_ge (tgt := 77) hx hb (by omega) (by omega) dX3_share_53 (by decide) (fun c_53 => ?_) (fun c_53 => ?_)
          · obtain rfl : 4 = k := by omega
            have hQS := hI_50
            refine lv_aload_n hx hb dX3_share_77 rfl (lv_at hl 0 rfl) ?_
            refine va_get (D := g.1) (ci := 3) (v := .int (zB p1)) (C := RX3) (T := TX3) (N := 30) hx hb hts in_X3 hown hK hP 0 rfl rfl 23 (by decide) (hts _ q1320) (fun _ h9 => h9) rfl dX3_share_78 ?_
            refine zti (zB_c (hQS.2.1)) ?_
            refine zi_eqB (tgt := 94) hx hb dX3_share_81 (by decide) (fun c_81 => ?_) (fun c_81 => ?_)
            · have hnb := bnum_lt (fun z => c_81 (Or.inl z)) (show x < 4 by omega)
              have hbt := btot_pos hB (by omega) n
              have hq3 := hQS.2.2 (fun z => c_81 (hQS.2.1.mp z))
              have hbl : btot (S.2.1 4) n 4 < 2 ^ 63 := Nat.lt_of_not_le fun z => c_81 (Or.inr z)
              refine lv_aload_n hx hb dX3_share_94 rfl (lv_at hl 0 rfl) ?_
              refine va_get (D := g.1) (ci := 3) (v := .ref (ad 21)) (C := RX3) (T := TX3) (N := 30) hx hb hts in_X3 hown hK hP 0 rfl rfl 21 (by decide) (hts _ q1318) (fun _ h9 => h9) rfl dX3_share_95 ?_
              refine lv_iload_n hx hb dX3_share_98 rfl (lv_at hl 1 rfl) ?_
              refine zall hx hb hK hP 11 1 rfl rfl (j := x) (by omega) (by decide) dX3_share_99 ?_
              refine ztl (show (lF Nu) x = lN (Nu x) from rfl) ?_
              refine ztl (show _ = lN (bnum (S.2.1 4) n x) from (congrArg lN (hNM_44.2.2 (fun z => c_81 (Or.inl (hNM_44.2.1.mp z))) x (by omega)))) ?_
              refine lv_lload hx hb dX3_share_100 (lv_at hl 4 rfl) ?_
              refine ztl (show _ = lN (btot (S.2.1 4) n 4) from congrArg lN hq3) ?_
              refine lv_iload_n hx hb dX3_share_102 rfl (lv_at hl 3 rfl) ?_
              refine vp_callSl (W.runS (As := [.long (lN (bnum (S.2.1 4) n x)), .long (lN (btot (S.2.1 4) n 4)), .int (nI w)]) (rest := []) ⟨hx, hb, hml, hown, hts⟩ (m_X3_lowest l g (bnum (S.2.1 4) n x) (btot (S.2.1 4) n 4) w (by omega) (by omega) (by omega) (by omega)) (va_cwS 3 hts (lw_S q1595 q1596 q69 q1597) rfl rfl rfl hdS_X3_lowest ⟨Nat.le_of_ble_eq_true rfl, Nat.le_of_ble_eq_true rfl⟩) (zpreS hK hN trivial) rfl rfl hl.1 rfl (lv_room (Nat.le_of_ble_eq_true rfl)) dX3_share_103 ⟨Nat.le_of_ble_eq_true rfl, Nat.le_of_ble_eq_true rfl⟩) (fun r_103 hr_103 => ?_)
              subst hr_103
              exact W.lret (v := lN (zif (w = 0) (bnum (S.2.1 4) n x) (btot (S.2.1 4) n 4) / Nat.gcd (bnum (S.2.1 4) n x) (btot (S.2.1 4) n 4))) hx hb hr (fun t ht hW => ⟨⟨lN (zif (w = 0) (bnum (S.2.1 4) n x) (btot (S.2.1 4) n 4) / Nat.gcd (bnum (S.2.1 4) n x) (btot (S.2.1 4) n 4)), (va_up (va_up fi 0 (nI 0)) 23 (zB p1), cn, va_up (va_up xl 21 (lF Nu)) 22 (lF Xu)), rfl, (by unfold opShare; (try rw [zn_nI (n := x) (by omega)]); (try rw [zn_nI (n := n) (by omega)]); (try rw [zn_nI (n := w) (by omega)]); rw [zif_t c_5, zif_t c_17, zif_t c_27, zif_f c_81]; exact ⟨rfl, ⟨rfl, hf8, hf12, hf19, hf29, hc1, hc2, hc3, hc4, hc7, hc11, hc26, hc27, hc28⟩, ⟨_, _, _, _, _, _, _, _, _, hc5, hc6, hc9, hc10, hc24, hc25, rfl, rfl, rfl⟩⟩), by rw [ht]; exact hP, hD⟩, hS.F ht⟩) hS.2.2 dX3_share_106
            · refine lv_aload_n hx hb dX3_share_84 rfl (lv_at hl 0 rfl) ?_
              refine lv_bipush (v := nI 6) hx hb dX3_share_85 (by decide) ?_
              have hle_87 := hS.1
              refine va_calli (va_runV (As := [.int (nI 6)]) (rest := []) ⟨hx, hb, hml, hown, hts⟩ (m_X3_finding l g ad (va_up (va_up fi 0 (nI 0)) 23 (zB p1)) cn (va_up (va_up xl 21 (lF Nu)) 22 (lF Xu)) _ 6) (cwV 1 hts (lw_V q1402 q1404 qs31 q69 q1405) rfl rfl rfl hdV_X3_finding ⟨Nat.le_of_ble_eq_true rfl, Nat.le_of_ble_eq_true rfl⟩) (zpreV hK hN (va_recv hK hP (ci := 3) (q0 := 0) rfl rfl) ⟨rfl, hP, hD.weaken (fun _ _ _ _ => trivial)⟩) rfl rfl hl.1 rfl (lv_room (Nat.le_of_ble_eq_true rfl)) dX3_share_87 ⟨Nat.le_of_ble_eq_true rfl, Nat.le_of_ble_eq_true rfl⟩) hS (fun q _ h => mA_le hS.1 q h) (mA_le hS.1) (fun r_87 u t H locs ht hvm hw_87 hB hzz hkk hS => ?_)
              obtain ⟨hP, hD⟩ := hB
              rw [ht] at hP
              have hD := hD.weaken (fun _ _ _ h => mA_le hle_87 _ h)
              obtain ⟨rfl, rfl⟩ := hw_87
              have hP : va_P g.1 zCL (mW g ad (va_up (va_up fi 0 (nI 6)) 23 (zB p1)) cn (va_up (va_up xl 21 (lF Nu)) 22 (lF Xu))) _ := hP
              have hD : va_D (mA ad s.heap.size) (mW g ad (va_up (va_up fi 0 (nI 6)) 23 (zB p1)) cn (va_up (va_up xl 21 (lF Nu)) 22 (lF Xu))) := hD
              refine lv_i2l hx hb dX3_share_90 rfl ?_
              refine lv_goto (tgt := 106) hx hb dX3_share_91 (by decide) ?_
              exact W.lret (v := (-1000010 - nI 6).toInt64) hx hb hr (fun t ht hW => ⟨⟨(-1000010 - nI 6).toInt64, (va_up (va_up fi 0 (nI 6)) 23 (zB p1), cn, va_up (va_up xl 21 (lF Nu)) 22 (lF Xu)), rfl, (by unfold opShare; (try rw [zn_nI (n := x) (by omega)]); (try rw [zn_nI (n := n) (by omega)]); (try rw [zn_nI (n := w) (by omega)]); rw [zif_t c_5, zif_t c_17, zif_t c_27, zif_t c_81]; exact ⟨rfl, ⟨rfl, hf8, hf12, hf19, hf29, hc1, hc2, hc3, hc4, hc7, hc11, hc26, hc27, hc28⟩, ⟨_, _, _, _, _, _, _, _, _, hc5, hc6, hc9, hc10, hc24, hc25, rfl, rfl, rfl⟩⟩), by rw [ht]; exact hP, hD⟩, hS.F ht⟩) hS.2.2 dX3_share_106
          · have hv63 := hI_50.1
            have hnk := hNM_44.1 k (by omega)
            refine lv_aload_n hx hb dX3_share_56 rfl (lv_at hl 0 rfl) ?_
            refine lv_lload hx hb dX3_share_57 (lv_at hl 4 rfl) ?_
            refine lv_aload_n hx hb dX3_share_59 rfl (lv_at hl 0 rfl) ?_
            refine va_get (D := g.1) (ci := 3) (v := .ref (ad 21)) (C := RX3) (T := TX3) (N := 30) hx hb hts in_X3 hown hK hP 0 rfl rfl 21 (by decide) (hts _ q1318) (fun _ h9 => h9) rfl dX3_share_60 ?_
            refine lv_iload hx hb dX3_share_63 (lv_at hl 5 rfl) ?_
            refine zall hx hb hK hP 11 1 rfl rfl (j := k) (by omega) (by decide) dX3_share_65 ?_
            refine ztl (show (lF Nu) k = lN (Nu k) from rfl) ?_
            have hle_66 := hS.1
            refine va_calll (va_runV (As := [.long (lN v0), .long (lN (Nu k))]) (rest := []) ⟨hx, hb, hml, hown, hts⟩ (m_X3_plus l g ad (va_up (va_up fi 0 (nI 0)) 23 (zB p1)) cn (va_up (va_up xl 21 (lF Nu)) 22 (lF Xu)) _ p1 rfl v0 (Nu k) (by omega) (by omega)) (cwV 2 hts (lw_V q1586 q1588 qs47 q69 q1589) rfl rfl rfl hdV_X3_plus ⟨Nat.le_of_ble_eq_true rfl, Nat.le_of_ble_eq_true rfl⟩) (zpreV hK hN (va_recv hK hP (ci := 3) (q0 := 0) rfl rfl) ⟨rfl, hP, hD.weaken (fun _ _ _ _ => trivial)⟩) rfl rfl hl.1 rfl (lv_room (Nat.le_of_ble_eq_true rfl)) dX3_share_66 ⟨Nat.le_of_ble_eq_true rfl, Nat.le_of_ble_eq_true rfl⟩) hS (fun q _ h => mA_le hS.1 q h) (mA_le hS.1) (fun r_66 u t H locs ht hvm hw_66 hB hzz hkk hS => ?_)
            obtain ⟨hP, hD⟩ := hB
            rw [ht] at hP
            have hD := hD.weaken (fun _ _ _ h => mA_le hle_66 _ h)
            obtain ⟨rfl, rfl⟩ := hw_66
            have hP : va_P g.1 zCL (mW g ad (va_up (va_up fi 0 (nI 0)) 23 (zB (p1 ∨ 2 ^ 63 ≤ v0 + (Nu k)))) cn (va_up (va_up xl 21 (lF Nu)) 22 (lF Xu))) _ := hP
            have hD : va_D (mA ad s.heap.size) (mW g ad (va_up (va_up fi 0 (nI 0)) 23 (zB (p1 ∨ 2 ^ 63 ≤ v0 + (Nu k)))) cn (va_up (va_up xl 21 (lF Nu)) 22 (lF Xu))) := hD
            refine lv_lstore (lv' := [(4, .long (lN (zif (p1 ∨ 2 ^ 63 ≤ v0 + (Nu k)) 0 (v0 + (Nu k))))), (0, .ref (ad 0)), (1, .int (nI x)), (2, .int (nI n)), (3, .int (nI w)), (6, .int (nI k))]) hx hb dX3_share_69 hl (by decide) rfl (fun ls hl => ?_)
            refine lv_iinc (v := nI (k + 1)) (lv' := [(6, .int (nI (k + 1))), (4, .long (lN (zif (p1 ∨ 2 ^ 63 ≤ v0 + (Nu k)) 0 (v0 + (Nu k))))), (0, .ref (ad 0)), (1, .int (nI x)), (2, .int (nI n)), (3, .int (nI w))]) hx hb dX3_share_71 hl (k := 5) rfl (nI_add k 1) (by decide) rfl (fun ls hl => ?_)
            refine lv_goto (tgt := 50) hx hb dX3_share_74 (by decide) ?_
            have hJ := hI_50.step (fun hq => hNM_44.2.2 (fun z => hq (hNM_44.2.1.mp z)) k (by omega))
            exact ih_50 (by omega) _ _ _ _ _ ⟨zif (p1 ∨ 2 ^ 63 ≤ v0 + (Nu k)) 0 (v0 + (Nu k)), p1 ∨ 2 ^ 63 ≤ v0 + (Nu k), rfl, rfl, hP, hD, hS, lv_sub hl [2, 3, 4, 5, 1, 0] rfl, hJ⟩
        · have hP : va_P g.1 zCL (mW g ad (va_up (va_up fi 0 (nI 0)) 23 (zB pu)) cn (va_up (va_up xl 21 (lF Nu)) 22 (lF Xu))) _ := hP
          have hD : va_D (mA ad s.heap.size) (mW g ad (va_up (va_up fi 0 (nI 0)) 23 (zB pu)) cn (va_up (va_up xl 21 (lF Nu)) 22 (lF Xu))) := hD
          exact ⟨0, pu, rfl, rfl, hP, hD, hS, lv_sub hl [2, 3, 4, 5, 1, 0] rfl, bS_0 hNM_44.2.1⟩
      · refine lv_ldc2 hx hb hown (hts _ q1571) dX3_share_30 ?_
        exact W.lret (v := -1000001) hx hb hr (fun t ht hW => ⟨⟨-1000001, (fi, cn, xl), rfl, (by unfold opShare; rw [zif_t c_5, zif_t c_17, zif_f c_27]; exact ⟨rfl, ⟨hf0, hf8, hf12, hf19, hf29, hc1, hc2, hc3, hc4, hc7, hc11, hc26, hc27, hc28⟩, ⟨_, _, _, _, _, _, _, _, _, hc5, hc6, hc9, hc10, hc24, hc25, hc21, hc22, hf23⟩⟩), by rw [ht]; exact hP, hD⟩, hS.F ht⟩) hS.2.2 dX3_share_33

set_option maxHeartbeats 4000000 in
set_option maxRecDepth 100000 in
theorem m_X3_all (l : Launch) (g : zG) (ad : Nat → Nat) (fi : Nat → Int32) (cn : Nat → Nat → Int32) (xl : Nat → Nat → Int64) (sz : Nat) (S : zS) (hM : MR S fi cn) (hX : MX fi cn xl) (hI : SI S) (n2 w2 : Int32) : Met l yX3_all (ws_ yX3_all cX3_all 7 (some .long)) ({ frames := 3, cells := 0, slots := 0, locals := 70 }) (zPc g [.ref (ad 0), .int n2, .int w2] (mH g ad fi cn xl sz)) (va_Ql (fun (r9 : Int64) u => r9 = (opAll S n2 w2 ).1 ∧ MR (opAll S n2 w2 ).2 u.1 u.2.1 ∧ MX u.1 u.2.1 u.2.2) (mB g ad sz) (mA ad sz)) 0 0 (mA ad sz) := by
  refine Met.ofW (cc := cX3_all) (maxL := 7) (ret := (some .long)) (by decide) rfl ?_
  intro p e s m args below meth c s₁ B0 hml hv
  obtain ⟨rfl, ⟨hK, hN⟩, hsz, hP, hD⟩ := hv
  have hx := B0.exec
  have hb := B0.bytes
  have hr := B0.returns
  have hts := atoms_spec (ws := ws_ yX3_all cX3_all 7 (some .long)) B0.pre
  have hts : ∀ w ∈ lw_all, w.before _ s = true := fun w h => hts w (List.mem_cons_of_mem _ h)
  have hown : s.vm.findClass RX3 = some m.cls := findClass_of_methodNamed B0.named
  have hlocks := B0.notSynchronized
  subst hsz
  have hD := mD_self s.heap.size hD
  have hS : va_S (mA ad s.heap.size) s.heap s.heap [] := va_S.rf
  have hl := lv_entry ([.ref (ad 0), .int n2, .int w2]) (n := 7) (Nat.le_of_ble_eq_true rfl)
  rw [lg_entry_eq]
  generalize (lg_sl ([.ref (ad 0), .int n2, .int w2]) ++ List.replicate (7 - (lg_sl ([.ref (ad 0), .int n2, .int w2])).length) Slot.unset).toArray = ls at hl ⊢
  have hl : lv_has ls 7 [(0, .ref (ad 0)), (1, .int n2), (2, .int w2)] := hl
  obtain ⟨hf0, hf8, hf12, hf19, hf29, hc1, hc2, hc3, hc4, hc7, hc11, hc26, hc27, hc28⟩ := hM
  obtain ⟨F5, F6, F9, F10, F24, E25, N21, N22, b23, hc5, hc6, hc9, hc10, hc24, hc25, hc21, hc22, hf23⟩ := hX
  have hB : bOK (S.2.1 4) := hI.1
  have h0 : S.2.1 4 0 ≤ 4 := hB.n4
  have h3 : S.2.1 4 3 ≤ 8 := hB.r8
  have hac := hI.2.2.1
  have hta := hI.2.2.2.1
  have hmn := hI.2.2.2.2.2.2.1
  have htn := hI.2.2.2.2.2.1
  refine lv_aload_n hx hb dX3_all_0 rfl (lv_at hl 0 rfl) ?_
  have hQ_1 : va_P g.1 zCL [(ad 0, .inr (3, mO ad fi)), (ad 4, .inl (g.2 0, 44, .inl (cn 4)))] _ := hP.sub [0, 4] rfl
  rw [show _ = _ from hc4] at hQ_1
  refine vp_callSi (W.runV (As := []) (rest := []) ⟨hx, hb, hml, hown, hts⟩ (m_X3_isThere l g ad fi (S.2.1 4) hB  ) (cwV 0 hts (lw_V q1517 q1519 qs43 q69 q1520) rfl rfl rfl hdV_X3_isThere ⟨Nat.le_of_ble_eq_true rfl, Nat.le_of_ble_eq_true rfl⟩) (zpreV hK hN (va_recv hK hP (ci := 3) (q0 := 0) rfl rfl) hQ_1) rfl rfl hl.1 rfl (lv_room (Nat.le_of_ble_eq_true rfl)) dX3_all_1 ⟨Nat.le_of_ble_eq_true rfl, Nat.le_of_ble_eq_true rfl⟩) (fun r_1 hr_1 => ?_)
  subst hr_1
  refine zi_neB (tgt := 11) hx hb dX3_all_4 (by decide) (fun c_4 => ?_) (fun c_4 => ?_)
  · refine lv_iload_n hx hb dX3_all_11 rfl (lv_at hl 1 rfl) ?_
    refine lv_i2l hx hb dX3_all_12 rfl ?_
    refine lv_lconst (v := lN 0) hx hb dX3_all_13 (by decide) ?_
    refine lv_ldc2 hx hb hown (hts _ q1581) dX3_all_14 ?_
    refine ztl (show (60 : Int64) = lN 60 from rfl) ?_
    refine vp_callSi (W.runS (As := [.long n2.toInt64, .long (lN 0), .long (lN 60)]) (rest := []) ⟨hx, hb, hml, hown, hts⟩ (m_X3_in l g n2.toInt64 (lN 0) (lN 60)) (va_cwS 3 hts (lw_S q1397 q1398 q69 q1399) rfl rfl rfl hdS_X3_in ⟨Nat.le_of_ble_eq_true rfl, Nat.le_of_ble_eq_true rfl⟩) (zpreS hK hN trivial) rfl rfl hl.1 rfl (lv_room (Nat.le_of_ble_eq_true rfl)) dX3_all_17 ⟨Nat.le_of_ble_eq_true rfl, Nat.le_of_ble_eq_true rfl⟩) (fun r_17 hr_17 => ?_)
    subst hr_17
    refine zti (show _ = zB (zIn n2 0 60) from zB_c (zIn_l n2 (by omega) (by omega))) ?_
    refine zi_eqB (tgt := 33) hx hb dX3_all_20 (by decide) (fun c_20 => ?_) (fun c_20 => ?_)
    · refine lv_ldc2 hx hb hown (hts _ q1571) dX3_all_33 ?_
      exact W.lret (v := -1000001) hx hb hr (fun t ht hW => ⟨⟨-1000001, (fi, cn, xl), rfl, (by unfold opAll; rw [zif_t c_4, zif_f c_20]; exact ⟨rfl, ⟨hf0, hf8, hf12, hf19, hf29, hc1, hc2, hc3, hc4, hc7, hc11, hc26, hc27, hc28⟩, ⟨_, _, _, _, _, _, _, _, _, hc5, hc6, hc9, hc10, hc24, hc25, hc21, hc22, hf23⟩⟩), by rw [ht]; exact hP, hD⟩, hS.F ht⟩) hS.2.2 dX3_all_36
    · refine lv_iload_n hx hb dX3_all_23 rfl (lv_at hl 2 rfl) ?_
      refine lv_i2l hx hb dX3_all_24 rfl ?_
      refine lv_lconst (v := lN 0) hx hb dX3_all_25 (by decide) ?_
      refine lv_lconst (v := lN 1) hx hb dX3_all_26 (by decide) ?_
      refine vp_callSi (W.runS (As := [.long w2.toInt64, .long (lN 0), .long (lN 1)]) (rest := []) ⟨hx, hb, hml, hown, hts⟩ (m_X3_in l g w2.toInt64 (lN 0) (lN 1)) (va_cwS 3 hts (lw_S q1397 q1398 q69 q1399) rfl rfl rfl hdS_X3_in ⟨Nat.le_of_ble_eq_true rfl, Nat.le_of_ble_eq_true rfl⟩) (zpreS hK hN trivial) rfl rfl hl.1 rfl (lv_room (Nat.le_of_ble_eq_true rfl)) dX3_all_27 ⟨Nat.le_of_ble_eq_true rfl, Nat.le_of_ble_eq_true rfl⟩) (fun r_27 hr_27 => ?_)
      subst hr_27
      refine zti (show _ = zB (zIn w2 0 1) from zB_c (zIn_l w2 (by omega) (by omega))) ?_
      refine zi_neB (tgt := 37) hx hb dX3_all_30 (by decide) (fun c_30 => ?_) (fun c_30 => ?_)
      · obtain ⟨n, rfl, hu_n, hv_n⟩ := zIn_ex c_20 (by omega)
        obtain ⟨w, rfl, hu_w, hv_w⟩ := zIn_ex c_30 (by omega)
        refine lv_aload_n hx hb dX3_all_37 rfl (lv_at hl 0 rfl) ?_
        refine lv_iconst (v := nI 0) hx hb dX3_all_38 (by decide) ?_
        refine va_put (D := g.1) (ci := 3) (v := .int (nI 0)) (ty := .int) (C := RX3) (T := TX3) (N := 30) hx hb hts in_X3 tyX3 tyX3_ok nmX3 hown hK hP hD hS 0 rfl rfl 0 (by decide) (hts _ q1297) (fun _ h9 => h9) rfl (by decide +kernel) rfl rfl (Nat.le_of_ble_eq_true rfl) dX3_all_39 (fun H locs hP hD hS => ?_)
        have hP : va_P g.1 zCL (mW g ad (va_up fi 0 (nI 0)) cn xl) _ := hP
        have hD : va_D (mA ad s.heap.size) (mW g ad (va_up fi 0 (nI 0)) cn xl) := hD
        refine lv_aload_n hx hb dX3_all_42 rfl (lv_at hl 0 rfl) ?_
        refine lv_iload_n hx hb dX3_all_43 rfl (lv_at hl 1 rfl) ?_
        have hle_44 := hS.1
        refine va_callv (va_runV (As := [.int (nI n)]) (rest := []) ⟨hx, hb, hml, hown, hts⟩ (m_X3_layNumbers l g ad (va_up fi 0 (nI 0)) cn xl _ (S.2.1 4) N21 N22 hc4 hc21 hc22 hB n (by omega)) (cwV 1 hts (lw_V q1582 q1584 qs46 q69 q1585) rfl rfl rfl hdV_X3_layNumbers ⟨Nat.le_of_ble_eq_true rfl, Nat.le_of_ble_eq_true rfl⟩) (zpreV hK hN (va_recv hK hP (ci := 3) (q0 := 0) rfl rfl) ⟨rfl, hP, hD.weaken (fun _ _ _ _ => trivial)⟩) rfl rfl hl.1 rfl (lv_room (Nat.le_of_ble_eq_true rfl)) dX3_all_44 ⟨Nat.le_of_ble_eq_true rfl, Nat.le_of_ble_eq_true rfl⟩) hS (fun q _ h => mA_le hS.1 q h) (mA_le hS.1) (fun u t H locs ht hvm hw_44 hB hzz hkk hS => ?_)
        obtain ⟨hP, hD⟩ := hB
        rw [ht] at hP
        have hD := hD.weaken (fun _ _ _ h => mA_le hle_44 _ h)
        obtain ⟨_, Nu, Xu, pu, rfl, hNM_47⟩ := hw_44
        have hP : va_P g.1 zCL (mW g ad (va_up (va_up fi 0 (nI 0)) 23 (zB pu)) cn (va_up (va_up xl 21 (lF Nu)) 22 (lF Xu))) _ := hP
        have hD : va_D (mA ad s.heap.size) (mW g ad (va_up (va_up fi 0 (nI 0)) 23 (zB pu)) cn (va_up (va_up xl 21 (lF Nu)) 22 (lF Xu))) := hD
        refine lv_lconst (v := lN 0) hx hb dX3_all_47 (by decide) ?_
        refine lv_lstore_n (lv' := [(3, .long (lN 0)), (0, .ref (ad 0)), (1, .int (nI n)), (2, .int (nI w))]) hx hb dX3_all_48 rfl hl (by decide) rfl (fun ls hl => ?_)
        refine lv_iconst (v := nI 0) hx hb dX3_all_49 (by decide) ?_
        refine lv_istore (lv' := [(5, .int (nI 0)), (3, .long (lN 0)), (0, .ref (ad 0)), (1, .int (nI n)), (2, .int (nI w))]) hx hb dX3_all_50 hl (by decide) rfl (fun ls hl => ?_)
        refine zloopW (head := 52) (S.2.1 4 0) (fun x H locs cells slots ls => ∃ (v0 : Nat) (p1 : Prop), cells = 0 ∧ slots = 0 ∧ va_P g.1 zCL (mW g ad (va_up (va_up fi 0 (nI 0)) 23 (zB p1)) cn (va_up (va_up xl 21 (lF Nu)) 22 (lF Xu))) H ∧ va_D (mA ad s.heap.size) (mW g ad (va_up (va_up fi 0 (nI 0)) 23 (zB p1)) cn (va_up (va_up xl 21 (lF Nu)) 22 (lF Xu))) ∧ va_S (mA ad s.heap.size) s.heap H locs ∧ lv_has ls 7 [(0, .ref (ad 0)), (1, .int (nI n)), (2, .int (nI w)), (3, .long (lN v0)), (5, .int (nI x))] ∧ (bS (bbey (S.2.1 4) n) v0 p1 (zsum (fun q => bln (S.2.1 4) q w * bnum (S.2.1 4) n q) x))) (fun x hv_x ih_52 H locs cells slots ls hI => ?_) 0 (Nat.zero_le _) ?_
        · obtain ⟨v0, p1, rfl, rfl, hP, hD, hS, hl, hI_52⟩ := hI
          refine lv_iload hx hb dX3_all_52 (lv_at hl 4 rfl) ?_
          refine lv_aload_n hx hb dX3_all_54 rfl (lv_at hl 0 rfl) ?_
          refine va_get (D := g.1) (ci := 3) (v := .ref (ad 4)) (C := RX3) (T := TX3) (N := 30) hx hb hts in_X3 hown hK hP 0 rfl rfl 4 (by decide) (hts _ q1301) (fun _ h9 => h9) rfl dX3_all_55 ?_
          refine lv_iconst (v := nI 0) hx hb dX3_all_58 (by decide) ?_
          refine zald hx hb hK hP 4 0 rfl rfl (j := 0) (by omega) (by decide) dX3_all_59 ?_
          refine zti (congrFun hc4 _) ?_
          refine zti (show (nF (S.2.1 4)) 0 = nI ((S.2.1 4) 0) from rfl) ?_
          refine zc_ge (tgt := 106) hx hb (by omega) (by omega) dX3_all_60 (by decide) (fun c_60 => ?_) (fun c_60 => ?_)
          · obtain rfl : S.2.1 4 0 = x := by omega
            have hQS := hI_52
            refine lv_aload_n hx hb dX3_all_106 rfl (lv_at hl 0 rfl) ?_
            refine va_get (D := g.1) (ci := 3) (v := .int (zB p1)) (C := RX3) (T := TX3) (N := 30) hx hb hts in_X3 hown hK hP 0 rfl rfl 23 (by decide) (hts _ q1320) (fun _ h9 => h9) rfl dX3_all_107 ?_
            refine zti (zB_c (hQS.2.1)) ?_
            refine zi_eqB (tgt := 123) hx hb dX3_all_110 (by decide) (fun c_110 => ?_) (fun c_110 => ?_)
            · have hq3 := hQS.2.2 (fun z => c_110 (hQS.2.1.mp z))
              refine lv_lload_n hx hb dX3_all_123 rfl (lv_at hl 3 rfl) ?_
              refine ztl (show _ = lN (zsum (fun q => bln (S.2.1 4) q w * bnum (S.2.1 4) n q) (S.2.1 4 0)) from congrArg lN hq3) ?_
              exact W.lret (v := lN (zsum (fun q => bln (S.2.1 4) q w * bnum (S.2.1 4) n q) (S.2.1 4 0))) hx hb hr (fun t ht hW => ⟨⟨lN (zsum (fun q => bln (S.2.1 4) q w * bnum (S.2.1 4) n q) (S.2.1 4 0)), (va_up (va_up fi 0 (nI 0)) 23 (zB p1), cn, va_up (va_up xl 21 (lF Nu)) 22 (lF Xu)), rfl, (by unfold opAll; (try rw [zn_nI (n := n) (by omega)]); (try rw [zn_nI (n := w) (by omega)]); rw [zif_t c_4, zif_t c_20, zif_t c_30, zif_f c_110]; exact ⟨rfl, ⟨rfl, hf8, hf12, hf19, hf29, hc1, hc2, hc3, hc4, hc7, hc11, hc26, hc27, hc28⟩, ⟨_, _, _, _, _, _, _, _, _, hc5, hc6, hc9, hc10, hc24, hc25, rfl, rfl, rfl⟩⟩), by rw [ht]; exact hP, hD⟩, hS.F ht⟩) hS.2.2 dX3_all_124
            · refine lv_aload_n hx hb dX3_all_113 rfl (lv_at hl 0 rfl) ?_
              refine lv_bipush (v := nI 6) hx hb dX3_all_114 (by decide) ?_
              have hle_116 := hS.1
              refine va_calli (va_runV (As := [.int (nI 6)]) (rest := []) ⟨hx, hb, hml, hown, hts⟩ (m_X3_finding l g ad (va_up (va_up fi 0 (nI 0)) 23 (zB p1)) cn (va_up (va_up xl 21 (lF Nu)) 22 (lF Xu)) _ 6) (cwV 1 hts (lw_V q1402 q1404 qs31 q69 q1405) rfl rfl rfl hdV_X3_finding ⟨Nat.le_of_ble_eq_true rfl, Nat.le_of_ble_eq_true rfl⟩) (zpreV hK hN (va_recv hK hP (ci := 3) (q0 := 0) rfl rfl) ⟨rfl, hP, hD.weaken (fun _ _ _ _ => trivial)⟩) rfl rfl hl.1 rfl (lv_room (Nat.le_of_ble_eq_true rfl)) dX3_all_116 ⟨Nat.le_of_ble_eq_true rfl, Nat.le_of_ble_eq_true rfl⟩) hS (fun q _ h => mA_le hS.1 q h) (mA_le hS.1) (fun r_116 u t H locs ht hvm hw_116 hB hzz hkk hS => ?_)
              obtain ⟨hP, hD⟩ := hB
              rw [ht] at hP
              have hD := hD.weaken (fun _ _ _ h => mA_le hle_116 _ h)
              obtain ⟨rfl, rfl⟩ := hw_116
              have hP : va_P g.1 zCL (mW g ad (va_up (va_up fi 0 (nI 6)) 23 (zB p1)) cn (va_up (va_up xl 21 (lF Nu)) 22 (lF Xu))) _ := hP
              have hD : va_D (mA ad s.heap.size) (mW g ad (va_up (va_up fi 0 (nI 6)) 23 (zB p1)) cn (va_up (va_up xl 21 (lF Nu)) 22 (lF Xu))) := hD
              refine lv_i2l hx hb dX3_all_119 rfl ?_
              refine lv_goto (tgt := 124) hx hb dX3_all_120 (by decide) ?_
              exact W.lret (v := (-1000010 - nI 6).toInt64) hx hb hr (fun t ht hW => ⟨⟨(-1000010 - nI 6).toInt64, (va_up (va_up fi 0 (nI 6)) 23 (zB p1), cn, va_up (va_up xl 21 (lF Nu)) 22 (lF Xu)), rfl, (by unfold opAll; (try rw [zn_nI (n := n) (by omega)]); (try rw [zn_nI (n := w) (by omega)]); rw [zif_t c_4, zif_t c_20, zif_t c_30, zif_t c_110]; exact ⟨rfl, ⟨rfl, hf8, hf12, hf19, hf29, hc1, hc2, hc3, hc4, hc7, hc11, hc26, hc27, hc28⟩, ⟨_, _, _, _, _, _, _, _, _, hc5, hc6, hc9, hc10, hc24, hc25, rfl, rfl, rfl⟩⟩), by rw [ht]; exact hP, hD⟩, hS.F ht⟩) hS.2.2 dX3_all_124
          · have hx0 : x < S.2.1 4 0 := by omega
            have hxk := (hB.kd hx0).2
            have hll := hB.ln hx0 (w := w) (by omega)
            refine lv_iconst (v := nI 0) hx hb dX3_all_63 (by decide) ?_
            refine lv_istore (lv' := [(6, .int (nI 0)), (0, .ref (ad 0)), (1, .int (nI n)), (2, .int (nI w)), (3, .long (lN v0)), (5, .int (nI x))]) hx hb dX3_all_64 hl (by decide) rfl (fun ls hl => ?_)
            refine zloopW (head := 66) (bln (S.2.1 4) x w) (fun k H locs cells slots ls => ∃ (v1 : Nat) (p2 : Prop), cells = 0 ∧ slots = 0 ∧ va_P g.1 zCL (mW g ad (va_up (va_up fi 0 (nI 0)) 23 (zB p2)) cn (va_up (va_up xl 21 (lF Nu)) 22 (lF Xu))) H ∧ va_D (mA ad s.heap.size) (mW g ad (va_up (va_up fi 0 (nI 0)) 23 (zB p2)) cn (va_up (va_up xl 21 (lF Nu)) 22 (lF Xu))) ∧ va_S (mA ad s.heap.size) s.heap H locs ∧ lv_has ls 7 [(0, .ref (ad 0)), (1, .int (nI n)), (2, .int (nI w)), (3, .long (lN v1)), (5, .int (nI x)), (6, .int (nI k))] ∧ (bS (bbey (S.2.1 4) n) v1 p2 (zsum (fun q => bln (S.2.1 4) q w * bnum (S.2.1 4) n q) x + k * bnum (S.2.1 4) n x))) (fun k hv_k ih_66 H locs cells slots ls hI => ?_) 0 (Nat.zero_le _) ?_
            · obtain ⟨v1, p2, rfl, rfl, hP, hD, hS, hl, hI_66⟩ := hI
              refine lv_iload hx hb dX3_all_66 (lv_at hl 5 rfl) ?_
              refine lv_aload_n hx hb dX3_all_68 rfl (lv_at hl 0 rfl) ?_
              refine va_get (D := g.1) (ci := 3) (v := .ref (ad 4)) (C := RX3) (T := TX3) (N := 30) hx hb hts in_X3 hown hK hP 0 rfl rfl 4 (by decide) (hts _ q1301) (fun _ h9 => h9) rfl dX3_all_69 ?_
              refine lv_iload hx hb dX3_all_72 (lv_at hl 4 rfl) ?_
              refine lv_iload_n hx hb dX3_all_74 rfl (lv_at hl 2 rfl) ?_
              have hQ_75 : va_P g.1 zCL [(ad 4, .inl (g.2 0, 44, .inl (cn 4)))] _ := hP.sub [4] rfl
              rw [show _ = _ from hc4] at hQ_75
              refine vp_callSi (W.runS (As := [.ref (ad 4), .int (nI x), .int (nI w)]) (rest := [.int (nI k)]) ⟨hx, hb, hml, hown, hts⟩ (m_X3_lengthOf l g (ad 4) (S.2.1 4) x w (by omega) (by omega) (by first | assumption | omega | exact (hB.kd (by omega)).2)) (va_cwS 3 hts (lw_S q1574 q1575 q69 q1576) rfl rfl rfl hdS_X3_lengthOf ⟨Nat.le_of_ble_eq_true rfl, Nat.le_of_ble_eq_true rfl⟩) (zpreS hK hN hQ_75) rfl rfl hl.1 rfl (lv_room (Nat.le_of_ble_eq_true rfl)) dX3_all_75 ⟨Nat.le_of_ble_eq_true rfl, Nat.le_of_ble_eq_true rfl⟩) (fun r_75 hr_75 => ?_)
              subst hr_75
              refine zc_ge (tgt := 100) hx hb (by omega) (by omega) dX3_all_78 (by decide) (fun c_78 => ?_) (fun c_78 => ?_)
              · obtain rfl : bln (S.2.1 4) x w = k := by omega
                refine lv_iinc (v := nI (x + 1)) (lv' := [(5, .int (nI (x + 1))), (0, .ref (ad 0)), (1, .int (nI n)), (2, .int (nI w)), (3, .long (lN v1)), (6, .int (nI (bln (S.2.1 4) x w)))]) hx hb dX3_all_100 hl (k := 4) rfl (nI_add x 1) (by decide) rfl (fun ls hl => ?_)
                refine lv_goto (tgt := 52) hx hb dX3_all_103 (by decide) ?_
                have hJ := hI_66
                exact ih_52 (by omega) _ _ _ _ _ ⟨v1, p2, rfl, rfl, hP, hD, hS, lv_sub hl [1, 2, 3, 4, 0] rfl, hJ⟩
              · have hv63 := hI_66.1
                have hnk := hNM_47.1 x (by omega)
                refine lv_aload_n hx hb dX3_all_81 rfl (lv_at hl 0 rfl) ?_
                refine lv_lload_n hx hb dX3_all_82 rfl (lv_at hl 3 rfl) ?_
                refine lv_aload_n hx hb dX3_all_83 rfl (lv_at hl 0 rfl) ?_
                refine va_get (D := g.1) (ci := 3) (v := .ref (ad 21)) (C := RX3) (T := TX3) (N := 30) hx hb hts in_X3 hown hK hP 0 rfl rfl 21 (by decide) (hts _ q1318) (fun _ h9 => h9) rfl dX3_all_84 ?_
                refine lv_iload hx hb dX3_all_87 (lv_at hl 4 rfl) ?_
                refine zall hx hb hK hP 11 1 rfl rfl (j := x) (by omega) (by decide) dX3_all_89 ?_
                refine ztl (show (lF Nu) x = lN (Nu x) from rfl) ?_
                have hle_90 := hS.1
                refine va_calll (va_runV (As := [.long (lN v1), .long (lN (Nu x))]) (rest := []) ⟨hx, hb, hml, hown, hts⟩ (m_X3_plus l g ad (va_up (va_up fi 0 (nI 0)) 23 (zB p2)) cn (va_up (va_up xl 21 (lF Nu)) 22 (lF Xu)) _ p2 rfl v1 (Nu x) (by omega) (by omega)) (cwV 2 hts (lw_V q1586 q1588 qs47 q69 q1589) rfl rfl rfl hdV_X3_plus ⟨Nat.le_of_ble_eq_true rfl, Nat.le_of_ble_eq_true rfl⟩) (zpreV hK hN (va_recv hK hP (ci := 3) (q0 := 0) rfl rfl) ⟨rfl, hP, hD.weaken (fun _ _ _ _ => trivial)⟩) rfl rfl hl.1 rfl (lv_room (Nat.le_of_ble_eq_true rfl)) dX3_all_90 ⟨Nat.le_of_ble_eq_true rfl, Nat.le_of_ble_eq_true rfl⟩) hS (fun q _ h => mA_le hS.1 q h) (mA_le hS.1) (fun r_90 u t H locs ht hvm hw_90 hB hzz hkk hS => ?_)
                obtain ⟨hP, hD⟩ := hB
                rw [ht] at hP
                have hD := hD.weaken (fun _ _ _ h => mA_le hle_90 _ h)
                obtain ⟨rfl, rfl⟩ := hw_90
                have hP : va_P g.1 zCL (mW g ad (va_up (va_up fi 0 (nI 0)) 23 (zB (p2 ∨ 2 ^ 63 ≤ v1 + (Nu x)))) cn (va_up (va_up xl 21 (lF Nu)) 22 (lF Xu))) _ := hP
                have hD : va_D (mA ad s.heap.size) (mW g ad (va_up (va_up fi 0 (nI 0)) 23 (zB (p2 ∨ 2 ^ 63 ≤ v1 + (Nu x)))) cn (va_up (va_up xl 21 (lF Nu)) 22 (lF Xu))) := hD
                refine lv_lstore_n (lv' := [(3, .long (lN (zif (p2 ∨ 2 ^ 63 ≤ v1 + (Nu x)) 0 (v1 + (Nu x))))), (0, .ref (ad 0)), (1, .int (nI n)), (2, .int (nI w)), (5, .int (nI x)), (6, .int (nI k))]) hx hb dX3_all_93 rfl hl (by decide) rfl (fun ls hl => ?_)
                refine lv_iinc (v := nI (k + 1)) (lv' := [(6, .int (nI (k + 1))), (3, .long (lN (zif (p2 ∨ 2 ^ 63 ≤ v1 + (Nu x)) 0 (v1 + (Nu x))))), (0, .ref (ad 0)), (1, .int (nI n)), (2, .int (nI w)), (5, .int (nI x))]) hx hb dX3_all_94 hl (k := 5) rfl (nI_add k 1) (by decide) rfl (fun ls hl => ?_)
                refine lv_goto (tgt := 66) hx hb dX3_all_97 (by decide) ?_
                have hJ := hI_66.step (fun hq => hNM_47.2.2 (fun z => hq (hNM_47.2.1.mp z)) x (by omega))
                rw [show zsum (fun q => bln (S.2.1 4) q w * bnum (S.2.1 4) n q) x + k * bnum (S.2.1 4) n x + bnum (S.2.1 4) n x = zsum (fun q => bln (S.2.1 4) q w * bnum (S.2.1 4) n q) x + (k + 1) * bnum (S.2.1 4) n x by rw [Nat.succ_mul]; omega] at hJ
                exact ih_66 (by omega) _ _ _ _ _ ⟨zif (p2 ∨ 2 ^ 63 ≤ v1 + (Nu x)) 0 (v1 + (Nu x)), p2 ∨ 2 ^ 63 ≤ v1 + (Nu x), rfl, rfl, hP, hD, hS, lv_sub hl [2, 3, 4, 1, 5, 0] rfl, hJ⟩
            · have hP : va_P g.1 zCL (mW g ad (va_up (va_up fi 0 (nI 0)) 23 (zB p1)) cn (va_up (va_up xl 21 (lF Nu)) 22 (lF Xu))) _ := hP
              have hD : va_D (mA ad s.heap.size) (mW g ad (va_up (va_up fi 0 (nI 0)) 23 (zB p1)) cn (va_up (va_up xl 21 (lF Nu)) 22 (lF Xu))) := hD
              exact ⟨v0, p1, rfl, rfl, hP, hD, hS, lv_sub hl [1, 2, 3, 4, 5, 0] rfl, (by rw [Nat.zero_mul]; exact hI_52)⟩
        · have hP : va_P g.1 zCL (mW g ad (va_up (va_up fi 0 (nI 0)) 23 (zB pu)) cn (va_up (va_up xl 21 (lF Nu)) 22 (lF Xu))) _ := hP
          have hD : va_D (mA ad s.heap.size) (mW g ad (va_up (va_up fi 0 (nI 0)) 23 (zB pu)) cn (va_up (va_up xl 21 (lF Nu)) 22 (lF Xu))) := hD
          exact ⟨0, pu, rfl, rfl, hP, hD, hS, lv_sub hl [2, 3, 4, 1, 0] rfl, bS_0 hNM_47.2.1⟩
      · refine lv_ldc2 hx hb hown (hts _ q1571) dX3_all_33 ?_
        exact W.lret (v := -1000001) hx hb hr (fun t ht hW => ⟨⟨-1000001, (fi, cn, xl), rfl, (by unfold opAll; rw [zif_t c_4, zif_t c_20, zif_f c_30]; exact ⟨rfl, ⟨hf0, hf8, hf12, hf19, hf29, hc1, hc2, hc3, hc4, hc7, hc11, hc26, hc27, hc28⟩, ⟨_, _, _, _, _, _, _, _, _, hc5, hc6, hc9, hc10, hc24, hc25, hc21, hc22, hf23⟩⟩), by rw [ht]; exact hP, hD⟩, hS.F ht⟩) hS.2.2 dX3_all_36
  · refine lv_ldc2 hx hb hown (hts _ q1570) dX3_all_7 ?_
    exact W.lret (v := -1000002) hx hb hr (fun t ht hW => ⟨⟨-1000002, (fi, cn, xl), rfl, (by unfold opAll; rw [zif_f c_4]; exact ⟨rfl, ⟨hf0, hf8, hf12, hf19, hf29, hc1, hc2, hc3, hc4, hc7, hc11, hc26, hc27, hc28⟩, ⟨_, _, _, _, _, _, _, _, _, hc5, hc6, hc9, hc10, hc24, hc25, hc21, hc22, hf23⟩⟩), by rw [ht]; exact hP, hD⟩, hS.F ht⟩) hS.2.2 dX3_all_10
