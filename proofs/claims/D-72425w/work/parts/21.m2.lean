/-! the twin: readers, 2 -/
set_option maxHeartbeats 4000000 in
set_option maxRecDepth 100000 in
theorem m_X3_oftenIn (l : Launch) (g : zG) (ad : Nat → Nat) (fi : Nat → Int32) (B : Nat → Nat) (hB : bOK B) (x y : Nat) (hx : x < B 0) (hy : y < B 0) : Met l yX3_oftenIn (ws_ yX3_oftenIn cX3_oftenIn 5 (some .int)) ({ frames := 2, cells := 0, slots := 0, locals := 45 }) (zPc g [.ref (ad 0), .int (nI x), .int (nI y)] (fun H => va_P g.1 zCL [(ad 0, .inr (3, mO ad fi)), (ad 4, .inl (g.2 0, 44, .inl (nF B)))] H)) (vp_Si (fun z : Int32 => z = nI (boft B x y))) 0 0 (fun _ => False) := by
  refine Met.ofW (cc := cX3_oftenIn) (maxL := 5) (ret := (some .int)) (by decide) rfl ?_
  intro p e s m args below meth c s₁ B0 hml hv
  obtain ⟨rfl, ⟨hK, hN⟩, hP⟩ := hv
  have hx := B0.exec
  have hb := B0.bytes
  have hr := B0.returns
  have hts := atoms_spec (ws := ws_ yX3_oftenIn cX3_oftenIn 5 (some .int)) B0.pre
  have hts : ∀ w ∈ lw_all, w.before _ s = true := fun w h => hts w (List.mem_cons_of_mem _ h)
  have hown : s.vm.findClass RX3 = some m.cls := findClass_of_methodNamed B0.named
  have hlocks := B0.notSynchronized
  have hl := lv_entry ([.ref (ad 0), .int (nI x), .int (nI y)]) (n := 5) (Nat.le_of_ble_eq_true rfl)
  rw [lg_entry_eq]
  generalize (lg_sl ([.ref (ad 0), .int (nI x), .int (nI y)]) ++ List.replicate (5 - (lg_sl ([.ref (ad 0), .int (nI x), .int (nI y)])).length) Slot.unset).toArray = ls at hl ⊢
  have hl : lv_has ls 5 [(0, .ref (ad 0)), (1, .int (nI x)), (2, .int (nI y))] := hl
  have h0 : B 0 ≤ 4 := hB.n4
  have h3 : B 3 ≤ 8 := hB.r8
  have hyk := (hB.kd hy).2
  have hyw := (hB.wl hy).2
  have hyl := (hB.il hy).2
  refine lv_iconst (v := nI 0) hx hb dX3_oftenIn_0 (by decide) ?_
  refine lv_istore_n (lv' := [(3, .int (nI 0)), (0, .ref (ad 0)), (1, .int (nI x)), (2, .int (nI y))]) hx hb dX3_oftenIn_1 rfl hl (by decide) rfl (fun ls hl => ?_)
  refine lv_iconst (v := nI 0) hx hb dX3_oftenIn_2 (by decide) ?_
  refine lv_istore (lv' := [(4, .int (nI 0)), (3, .int (nI 0)), (0, .ref (ad 0)), (1, .int (nI x)), (2, .int (nI y))]) hx hb dX3_oftenIn_3 hl (by decide) rfl (fun ls hl => ?_)
  refine zloop (head := 5) (nL := 5) (bil B y) (fun k => [(0, .ref (ad 0)), (1, .int (nI x)), (2, .int (nI y)), (3, .int (nI (zcnt (fun i => bia B y i = x) k))), (4, .int (nI k))]) (fun k hv_k ih_5 ls hl => ?_) 0 (Nat.zero_le _) (lv_sub hl [2, 3, 4, 1, 0] rfl)
  have hq := zcnt_le (fun i => bia B y i = x) k
  refine lv_iload hx hb dX3_oftenIn_5 (lv_at hl 4 rfl) ?_
  refine lv_aload_n hx hb dX3_oftenIn_7 rfl (lv_at hl 0 rfl) ?_
  refine va_get (D := g.1) (ci := 3) (v := .ref (ad 4)) (C := RX3) (T := TX3) (N := 30) hx hb hts in_X3 hown hK hP 0 rfl rfl 4 (by decide) (hts _ q1301) (fun _ h9 => h9) rfl dX3_oftenIn_8 ?_
  refine lv_iload_n hx hb dX3_oftenIn_11 rfl (lv_at hl 2 rfl) ?_
  refine vp_callSi (W.runS (As := [.ref (ad 4), .int (nI y)]) (rest := [.int (nI k)]) ⟨hx, hb, hml, hown, hts⟩ (m_X3_imageSize l g (ad 4) B y (by omega) (by first | assumption | omega | exact (hB.kd (by omega)).2)) (va_cwS 2 hts (lw_S q1539 q1540 q69 q1541) rfl rfl rfl hdS_X3_imageSize ⟨Nat.le_of_ble_eq_true rfl, Nat.le_of_ble_eq_true rfl⟩) (zpreS hK hN (hP.sub [1] rfl)) rfl rfl hl.1 rfl (lv_room (Nat.le_of_ble_eq_true rfl)) dX3_oftenIn_12 ⟨Nat.le_of_ble_eq_true rfl, Nat.le_of_ble_eq_true rfl⟩) (fun r_12 hr_12 => ?_)
  subst hr_12
  refine zc_ge (tgt := 46) hx hb (by omega) (by omega) dX3_oftenIn_15 (by decide) (fun c_15 => ?_) (fun c_15 => ?_)
  · refine lv_iload_n hx hb dX3_oftenIn_46 rfl (lv_at hl 3 rfl) ?_
    exact W.iret (v := nI (zcnt (fun i => bia B y i = x) k)) hx hb hr (fun t ht hW => ⟨_, rfl, (by rw [show k = bil B y by omega]; rfl), ht⟩) (fun _ h => absurd h List.not_mem_nil) dX3_oftenIn_47
  · refine lv_iload_n hx hb dX3_oftenIn_18 rfl (lv_at hl 3 rfl) ?_
    have hia := hB.ia hy (show k < bil B y by omega)
    refine zjoin (ls := ls) (α := Int32) (fun v9 => v9 = nI (zif (bia B y k = x) 1 0)) (fun v9 => .int v9 :: [.int (nI (zcnt (fun i => bia B y i = x) k))]) 38 (fun v9 hv => ?_) (fun jn_19 => ?_)
    · subst hv
      refine lv_iadd hx hb dX3_oftenIn_38 ?_
      refine zti (nI_add (zcnt (fun i => bia B y i = x) k) (zif (bia B y k = x) 1 0)) ?_
      refine lv_istore_n (lv' := [(3, .int (nI (zcnt (fun i => bia B y i = x) k + (zif (bia B y k = x) 1 0)))), (0, .ref (ad 0)), (1, .int (nI x)), (2, .int (nI y)), (4, .int (nI k))]) hx hb dX3_oftenIn_39 rfl hl (by decide) rfl (fun ls hl => ?_)
      refine lv_iinc (v := nI (k + 1)) (lv' := [(4, .int (nI (k + 1))), (3, .int (nI (zcnt (fun i => bia B y i = x) k + (zif (bia B y k = x) 1 0)))), (0, .ref (ad 0)), (1, .int (nI x)), (2, .int (nI y))]) hx hb dX3_oftenIn_40 hl (k := 4) rfl (nI_add k 1) (by decide) rfl (fun ls hl => ?_)
      refine lv_goto (tgt := 5) hx hb dX3_oftenIn_43 (by decide) ?_
      exact ih_5 (by omega) _ (lv_sub hl [2, 3, 4, 1, 0] rfl)
    · refine lv_aload_n hx hb dX3_oftenIn_19 rfl (lv_at hl 0 rfl) ?_
      refine va_get (D := g.1) (ci := 3) (v := .ref (ad 4)) (C := RX3) (T := TX3) (N := 30) hx hb hts in_X3 hown hK hP 0 rfl rfl 4 (by decide) (hts _ q1301) (fun _ h9 => h9) rfl dX3_oftenIn_20 ?_
      refine lv_iload_n hx hb dX3_oftenIn_23 rfl (lv_at hl 2 rfl) ?_
      refine lv_iload hx hb dX3_oftenIn_24 (lv_at hl 4 rfl) ?_
      refine vp_callSi (W.runS (As := [.ref (ad 4), .int (nI y), .int (nI k)]) (rest := [.int (nI (zcnt (fun i => bia B y i = x) k))]) ⟨hx, hb, hml, hown, hts⟩ (m_X3_imageAt l g (ad 4) B y k (by omega) (by first | assumption | omega | exact (hB.kd (by omega)).2) (by first | assumption | omega | exact (hB.wl (by omega)).2) (by first | assumption | omega)) (va_cwS 3 hts (lw_S q1542 q1543 q69 q1544) rfl rfl rfl hdS_X3_imageAt ⟨Nat.le_of_ble_eq_true rfl, Nat.le_of_ble_eq_true rfl⟩) (zpreS hK hN (hP.sub [1] rfl)) rfl rfl hl.1 rfl (lv_room (Nat.le_of_ble_eq_true rfl)) dX3_oftenIn_26 ⟨Nat.le_of_ble_eq_true rfl, Nat.le_of_ble_eq_true rfl⟩) (fun r_26 hr_26 => ?_)
      subst hr_26
      refine lv_iload_n hx hb dX3_oftenIn_29 rfl (lv_at hl 1 rfl) ?_
      refine zc_ne (tgt := 37) hx hb (by omega) (by omega) dX3_oftenIn_30 (by decide) (fun c_30 => ?_) (fun c_30 => ?_)
      · refine lv_iconst (v := nI 0) hx hb dX3_oftenIn_37 (by decide) ?_
        exact jn_19 _ ((congrArg nI (zif_f c_30)).symm)
      · refine lv_iconst (v := nI 1) hx hb dX3_oftenIn_33 (by decide) ?_
        refine lv_goto (tgt := 38) hx hb dX3_oftenIn_34 (by decide) ?_
        exact jn_19 _ ((congrArg nI (zif_t c_30)).symm)

set_option maxHeartbeats 4000000 in
set_option maxRecDepth 100000 in
theorem m_X3_lettersOfAll (l : Launch) (g : zG) (ad : Nat → Nat) (fi : Nat → Int32) (B : Nat → Nat) (hB : bOK B) : Met l yX3_lettersOfAll (ws_ yX3_lettersOfAll cX3_lettersOfAll 3 (some .int)) ({ frames := 1, cells := 0, slots := 0, locals := 21 }) (zPc g [.ref (ad 0)] (fun H => va_P g.1 zCL [(ad 0, .inr (3, mO ad fi)), (ad 4, .inl (g.2 0, 44, .inl (nF B)))] H)) (vp_Si (fun z : Int32 => z = nI (zsum (bwl B) (B 0)))) 0 0 (fun _ => False) := by
  refine Met.ofW (cc := cX3_lettersOfAll) (maxL := 3) (ret := (some .int)) (by decide) rfl ?_
  intro p e s m args below meth c s₁ B0 hml hv
  obtain ⟨rfl, ⟨hK, hN⟩, hP⟩ := hv
  have hx := B0.exec
  have hb := B0.bytes
  have hr := B0.returns
  have hts := atoms_spec (ws := ws_ yX3_lettersOfAll cX3_lettersOfAll 3 (some .int)) B0.pre
  have hts : ∀ w ∈ lw_all, w.before _ s = true := fun w h => hts w (List.mem_cons_of_mem _ h)
  have hown : s.vm.findClass RX3 = some m.cls := findClass_of_methodNamed B0.named
  have hlocks := B0.notSynchronized
  have hl := lv_entry ([.ref (ad 0)]) (n := 3) (Nat.le_of_ble_eq_true rfl)
  rw [lg_entry_eq]
  generalize (lg_sl ([.ref (ad 0)]) ++ List.replicate (3 - (lg_sl ([.ref (ad 0)])).length) Slot.unset).toArray = ls at hl ⊢
  have hl : lv_has ls 3 [(0, .ref (ad 0))] := hl
  have h0 : B 0 ≤ 4 := hB.n4
  have h3 : B 3 ≤ 8 := hB.r8
  refine lv_iconst (v := nI 0) hx hb dX3_lettersOfAll_0 (by decide) ?_
  refine lv_istore_n (lv' := [(1, .int (nI 0)), (0, .ref (ad 0))]) hx hb dX3_lettersOfAll_1 rfl hl (by decide) rfl (fun ls hl => ?_)
  refine lv_iconst (v := nI 0) hx hb dX3_lettersOfAll_2 (by decide) ?_
  refine lv_istore_n (lv' := [(2, .int (nI 0)), (1, .int (nI 0)), (0, .ref (ad 0))]) hx hb dX3_lettersOfAll_3 rfl hl (by decide) rfl (fun ls hl => ?_)
  refine zloop (head := 4) (nL := 3) (B 0) (fun k => [(0, .ref (ad 0)), (1, .int (nI (zsum (bwl B) k))), (2, .int (nI k))]) (fun k hv_k ih_4 ls hl => ?_) 0 (Nat.zero_le _) (lv_sub hl [2, 1, 0] rfl)
  refine lv_iload_n hx hb dX3_lettersOfAll_4 rfl (lv_at hl 2 rfl) ?_
  refine lv_aload_n hx hb dX3_lettersOfAll_5 rfl (lv_at hl 0 rfl) ?_
  refine va_get (D := g.1) (ci := 3) (v := .ref (ad 4)) (C := RX3) (T := TX3) (N := 30) hx hb hts in_X3 hown hK hP 0 rfl rfl 4 (by decide) (hts _ q1301) (fun _ h9 => h9) rfl dX3_lettersOfAll_6 ?_
  refine lv_iconst (v := nI 0) hx hb dX3_lettersOfAll_9 (by decide) ?_
  refine zald hx hb hK hP 1 0 rfl rfl (j := 0) (by omega) (by decide) dX3_lettersOfAll_10 ?_
  refine zti (show (nF B) 0 = nI (B 0) from rfl) ?_
  refine zc_ge (tgt := 31) hx hb (by omega) (by omega) dX3_lettersOfAll_11 (by decide) (fun c_11 => ?_) (fun c_11 => ?_)
  · refine lv_iload_n hx hb dX3_lettersOfAll_31 rfl (lv_at hl 1 rfl) ?_
    exact W.iret (v := nI (zsum (bwl B) k)) hx hb hr (fun t ht hW => ⟨_, rfl, (by rw [show k = B 0 by omega]), ht⟩) (fun _ h => absurd h List.not_mem_nil) dX3_lettersOfAll_32
  · refine lv_iload_n hx hb dX3_lettersOfAll_14 rfl (lv_at hl 1 rfl) ?_
    refine lv_aload_n hx hb dX3_lettersOfAll_15 rfl (lv_at hl 0 rfl) ?_
    refine va_get (D := g.1) (ci := 3) (v := .ref (ad 4)) (C := RX3) (T := TX3) (N := 30) hx hb hts in_X3 hown hK hP 0 rfl rfl 4 (by decide) (hts _ q1301) (fun _ h9 => h9) rfl dX3_lettersOfAll_16 ?_
    refine lv_iload_n hx hb dX3_lettersOfAll_19 rfl (lv_at hl 2 rfl) ?_
    refine vp_callSi (W.runS (As := [.ref (ad 4), .int (nI k)]) (rest := [.int (nI (zsum (bwl B) k))]) ⟨hx, hb, hml, hown, hts⟩ (m_X3_wordSize l g (ad 4) B k (by omega)) (va_cwS 2 hts (lw_S q1497 q1498 q69 q1499) rfl rfl rfl hdS_X3_wordSize ⟨Nat.le_of_ble_eq_true rfl, Nat.le_of_ble_eq_true rfl⟩) (zpreS hK hN (hP.sub [1] rfl)) rfl rfl hl.1 rfl (lv_room (Nat.le_of_ble_eq_true rfl)) dX3_lettersOfAll_20 ⟨Nat.le_of_ble_eq_true rfl, Nat.le_of_ble_eq_true rfl⟩) (fun r_20 hr_20 => ?_)
    subst hr_20
    refine lv_iadd hx hb dX3_lettersOfAll_23 ?_
    refine zti (nI_add (zsum (bwl B) k) (bwl B k)) ?_
    refine lv_istore_n (lv' := [(1, .int (nI (zsum (bwl B) k + bwl B k))), (0, .ref (ad 0)), (2, .int (nI k))]) hx hb dX3_lettersOfAll_24 rfl hl (by decide) rfl (fun ls hl => ?_)
    refine lv_iinc (v := nI (k + 1)) (lv' := [(2, .int (nI (k + 1))), (1, .int (nI (zsum (bwl B) k + bwl B k))), (0, .ref (ad 0))]) hx hb dX3_lettersOfAll_25 hl (k := 2) rfl (nI_add k 1) (by decide) rfl (fun ls hl => ?_)
    refine lv_goto (tgt := 4) hx hb dX3_lettersOfAll_28 (by decide) ?_
    exact ih_4 (by omega) _ (lv_sub hl [2, 1, 0] rfl)

set_option maxHeartbeats 4000000 in
set_option maxRecDepth 100000 in
theorem m_X3_isImageAt (l : Launch) (g : zG) (ad : Nat → Nat) (fi : Nat → Int32) (it : Nat → Int32) (B : Nat → Nat) (hB : bOK B) (x r i n : Nat) (hxB : x < B 0) (hr2 : r < 8) (hn : n ≤ 40) (hi : i ≤ 40) : Met l yX3_isImageAt (ws_ yX3_isImageAt cX3_isImageAt 7 (some .boolean)) ({ frames := 2, cells := 0, slots := 0, locals := 45 }) (zPc g [.ref (ad 0), .int (nI x), .int (nI r), .int (nI i), .int (nI n)] (fun H => va_P g.1 zCL [(ad 0, .inr (3, mO ad fi)), (ad 3, .inl (g.2 0, 320, .inl it)), (ad 4, .inl (g.2 0, 44, .inl (nF B)))] H)) (vp_Si (fun z : Int32 => z = zB (bimg B (fun j => it (40 * r + j)) x i n))) 0 0 (fun _ => False) := by
  refine Met.ofW (cc := cX3_isImageAt) (maxL := 7) (ret := (some .boolean)) (by decide) rfl ?_
  intro p e s m args below meth c s₁ B0 hml hv
  obtain ⟨rfl, ⟨hK, hN⟩, hP⟩ := hv
  have hx := B0.exec
  have hb := B0.bytes
  have hr := B0.returns
  have hts := atoms_spec (ws := ws_ yX3_isImageAt cX3_isImageAt 7 (some .boolean)) B0.pre
  have hts : ∀ w ∈ lw_all, w.before _ s = true := fun w h => hts w (List.mem_cons_of_mem _ h)
  have hown : s.vm.findClass RX3 = some m.cls := findClass_of_methodNamed B0.named
  have hlocks := B0.notSynchronized
  have hl := lv_entry ([.ref (ad 0), .int (nI x), .int (nI r), .int (nI i), .int (nI n)]) (n := 7) (Nat.le_of_ble_eq_true rfl)
  rw [lg_entry_eq]
  generalize (lg_sl ([.ref (ad 0), .int (nI x), .int (nI r), .int (nI i), .int (nI n)]) ++ List.replicate (7 - (lg_sl ([.ref (ad 0), .int (nI x), .int (nI r), .int (nI i), .int (nI n)])).length) Slot.unset).toArray = ls at hl ⊢
  have hl : lv_has ls 7 [(0, .ref (ad 0)), (1, .int (nI x)), (2, .int (nI r)), (3, .int (nI i)), (4, .int (nI n))] := hl
  have h0 : B 0 ≤ 4 := hB.n4
  have h3 : B 3 ≤ 8 := hB.r8
  have hxk := (hB.kd hxB).2
  have hxw := (hB.wl hxB).2
  have hxl := (hB.il hxB).2
  refine zjoin (ls := ls) (α := Int32) (fun v9 => v9 = zB (i + bil B x ≤ n)) (fun v9 => .int v9 :: []) 20 (fun v9 hv => ?_) (fun jn_0 => ?_)
  · subst hv
    refine lv_istore (lv' := [(5, .int (zB (i + bil B x ≤ n))), (0, .ref (ad 0)), (1, .int (nI x)), (2, .int (nI r)), (3, .int (nI i)), (4, .int (nI n))]) hx hb dX3_isImageAt_20 hl (by decide) rfl (fun ls hl => ?_)
    refine lv_iconst (v := nI 0) hx hb dX3_isImageAt_22 (by decide) ?_
    refine lv_istore (lv' := [(6, .int (nI 0)), (5, .int (zB (i + bil B x ≤ n))), (0, .ref (ad 0)), (1, .int (nI x)), (2, .int (nI r)), (3, .int (nI i)), (4, .int (nI n))]) hx hb dX3_isImageAt_23 hl (by decide) rfl (fun ls hl => ?_)
    refine zloop (head := 25) (nL := 7) (bil B x) (fun k => [(0, .ref (ad 0)), (1, .int (nI x)), (2, .int (nI r)), (3, .int (nI i)), (4, .int (nI n)), (5, .int (zB (i + bil B x ≤ n ∧ ∀ j, j < k → it (40 * r + (i + j)) = nI (bia B x j)))), (6, .int (nI k))]) (fun k hv_k ih_25 ls hl => ?_) 0 (Nat.zero_le _) ((show zB (i + bil B x ≤ n) = zB (i + bil B x ≤ n ∧ ∀ j, j < 0 → it (40 * r + (i + j)) = nI (bia B x j)) from zB_c ⟨fun z => ⟨z, fun j hj => absurd hj (Nat.not_lt_zero _)⟩, fun z => z.1⟩) ▸ (lv_sub hl [2, 3, 4, 5, 6, 1, 0] rfl))
    refine lv_iload hx hb dX3_isImageAt_25 (lv_at hl 6 rfl) ?_
    refine lv_aload_n hx hb dX3_isImageAt_27 rfl (lv_at hl 0 rfl) ?_
    refine va_get (D := g.1) (ci := 3) (v := .ref (ad 4)) (C := RX3) (T := TX3) (N := 30) hx hb hts in_X3 hown hK hP 0 rfl rfl 4 (by decide) (hts _ q1301) (fun _ h9 => h9) rfl dX3_isImageAt_28 ?_
    refine lv_iload_n hx hb dX3_isImageAt_31 rfl (lv_at hl 1 rfl) ?_
    refine vp_callSi (W.runS (As := [.ref (ad 4), .int (nI x)]) (rest := [.int (nI k)]) ⟨hx, hb, hml, hown, hts⟩ (m_X3_imageSize l g (ad 4) B x (by omega) (by first | assumption | omega | exact (hB.kd (by omega)).2)) (va_cwS 2 hts (lw_S q1539 q1540 q69 q1541) rfl rfl rfl hdS_X3_imageSize ⟨Nat.le_of_ble_eq_true rfl, Nat.le_of_ble_eq_true rfl⟩) (zpreS hK hN (hP.sub [2] rfl)) rfl rfl hl.1 rfl (lv_room (Nat.le_of_ble_eq_true rfl)) dX3_isImageAt_32 ⟨Nat.le_of_ble_eq_true rfl, Nat.le_of_ble_eq_true rfl⟩) (fun r_32 hr_32 => ?_)
    subst hr_32
    refine zc_ge (tgt := 83) hx hb (by omega) (by omega) dX3_isImageAt_35 (by decide) (fun c_35 => ?_) (fun c_35 => ?_)
    · refine lv_iload hx hb dX3_isImageAt_83 (lv_at hl 5 rfl) ?_
      exact W.zret (v := zB (i + bil B x ≤ n ∧ ∀ j, j < k → it (40 * r + (i + j)) = nI (bia B x j))) hx hb hr (zB_nar _) (fun t ht hW => ⟨_, rfl, (zB_c ⟨fun z => ⟨z.1, fun j hj => z.2 j (by omega)⟩, fun z => ⟨z.1, fun j hj => z.2 j (by omega)⟩⟩), ht⟩) (fun _ h => absurd h List.not_mem_nil) dX3_isImageAt_85
    · refine lv_iload hx hb dX3_isImageAt_38 (lv_at hl 5 rfl) ?_
      refine zi_eqB (tgt := 83) hx hb dX3_isImageAt_40 (by decide) (fun c_40 => ?_) (fun c_40 => ?_)
      · refine lv_iload hx hb dX3_isImageAt_83 (lv_at hl 5 rfl) ?_
        exact W.zret (v := zB (i + bil B x ≤ n ∧ ∀ j, j < k → it (40 * r + (i + j)) = nI (bia B x j))) hx hb hr (zB_nar _) (fun t ht hW => ⟨_, rfl, (zB_c ⟨fun z => absurd z c_40, fun z => absurd ⟨z.1, fun j hj => z.2 j (by omega)⟩ c_40⟩), ht⟩) (fun _ h => absurd h List.not_mem_nil) dX3_isImageAt_85
      · have hin := c_40.1
        refine zjoin (ls := ls) (α := Int32) (fun v9 => v9 = zB (i + bil B x ≤ n ∧ ∀ j, j < (k + 1) → it (40 * r + (i + j)) = nI (bia B x j))) (fun v9 => .int v9 :: []) 75 (fun v9 hv => ?_) (fun jn_43 => ?_)
        · subst hv
          refine lv_istore (lv' := [(5, .int (zB (i + bil B x ≤ n ∧ ∀ j, j < (k + 1) → it (40 * r + (i + j)) = nI (bia B x j)))), (0, .ref (ad 0)), (1, .int (nI x)), (2, .int (nI r)), (3, .int (nI i)), (4, .int (nI n)), (6, .int (nI k))]) hx hb dX3_isImageAt_75 hl (by decide) rfl (fun ls hl => ?_)
          refine lv_iinc (v := nI (k + 1)) (lv' := [(6, .int (nI (k + 1))), (5, .int (zB (i + bil B x ≤ n ∧ ∀ j, j < (k + 1) → it (40 * r + (i + j)) = nI (bia B x j)))), (0, .ref (ad 0)), (1, .int (nI x)), (2, .int (nI r)), (3, .int (nI i)), (4, .int (nI n))]) hx hb dX3_isImageAt_77 hl (k := 6) rfl (nI_add k 1) (by decide) rfl (fun ls hl => ?_)
          refine lv_goto (tgt := 25) hx hb dX3_isImageAt_80 (by decide) ?_
          exact ih_25 (by omega) _ (lv_sub hl [2, 3, 4, 5, 6, 1, 0] rfl)
        · refine lv_aload_n hx hb dX3_isImageAt_43 rfl (lv_at hl 0 rfl) ?_
          refine va_get (D := g.1) (ci := 3) (v := .ref (ad 3)) (C := RX3) (T := TX3) (N := 30) hx hb hts in_X3 hown hK hP 0 rfl rfl 3 (by decide) (hts _ q1300) (fun _ h9 => h9) rfl dX3_isImageAt_44 ?_
          refine lv_bipush (v := nI 40) hx hb dX3_isImageAt_47 (by decide) ?_
          refine lv_iload_n hx hb dX3_isImageAt_49 rfl (lv_at hl 2 rfl) ?_
          refine lv_imul hx hb dX3_isImageAt_50 ?_
          refine zti (pk_mul 40 r) ?_
          refine lv_iload_n hx hb dX3_isImageAt_51 rfl (lv_at hl 3 rfl) ?_
          refine lv_iadd hx hb dX3_isImageAt_52 ?_
          refine zti (nI_add (40 * r) i) ?_
          refine lv_iload hx hb dX3_isImageAt_53 (lv_at hl 6 rfl) ?_
          refine lv_iadd hx hb dX3_isImageAt_55 ?_
          refine zti (nI_add (40 * r + i) k) ?_
          refine zald hx hb hK hP 1 0 rfl rfl (j := 40 * r + i + k) (by omega) (by decide) dX3_isImageAt_56 ?_
          refine lv_aload_n hx hb dX3_isImageAt_57 rfl (lv_at hl 0 rfl) ?_
          refine va_get (D := g.1) (ci := 3) (v := .ref (ad 4)) (C := RX3) (T := TX3) (N := 30) hx hb hts in_X3 hown hK hP 0 rfl rfl 4 (by decide) (hts _ q1301) (fun _ h9 => h9) rfl dX3_isImageAt_58 ?_
          refine lv_iload_n hx hb dX3_isImageAt_61 rfl (lv_at hl 1 rfl) ?_
          refine lv_iload hx hb dX3_isImageAt_62 (lv_at hl 6 rfl) ?_
          refine vp_callSi (W.runS (As := [.ref (ad 4), .int (nI x), .int (nI k)]) (rest := [.int (it (40 * r + i + k))]) ⟨hx, hb, hml, hown, hts⟩ (m_X3_imageAt l g (ad 4) B x k (by omega) (by first | assumption | omega | exact (hB.kd (by omega)).2) (by first | assumption | omega | exact (hB.wl (by omega)).2) (by first | assumption | omega)) (va_cwS 3 hts (lw_S q1542 q1543 q69 q1544) rfl rfl rfl hdS_X3_imageAt ⟨Nat.le_of_ble_eq_true rfl, Nat.le_of_ble_eq_true rfl⟩) (zpreS hK hN (hP.sub [2] rfl)) rfl rfl hl.1 rfl (lv_room (Nat.le_of_ble_eq_true rfl)) dX3_isImageAt_64 ⟨Nat.le_of_ble_eq_true rfl, Nat.le_of_ble_eq_true rfl⟩) (fun r_64 hr_64 => ?_)
          subst hr_64
          refine lv_icmp_ne (tgt := 74) hx hb dX3_isImageAt_67 (by decide) (fun c_67 => ?_) (fun c_67 => ?_)
          · refine lv_iconst (v := nI 0) hx hb dX3_isImageAt_74 (by decide) ?_
            exact jn_43 _ ((zB_f (fun z => c_67 (by have := z.2 k (by omega); rw [← Nat.add_assoc] at this; exact this))).symm)
          · refine lv_iconst (v := nI 1) hx hb dX3_isImageAt_70 (by decide) ?_
            refine lv_goto (tgt := 75) hx hb dX3_isImageAt_71 (by decide) ?_
            exact jn_43 _ ((zB_t ⟨c_40.1, lt_s c_40.2 (by rw [← Nat.add_assoc]; exact c_67)⟩).symm)
  · refine lv_iload_n hx hb dX3_isImageAt_0 rfl (lv_at hl 3 rfl) ?_
    refine lv_aload_n hx hb dX3_isImageAt_1 rfl (lv_at hl 0 rfl) ?_
    refine va_get (D := g.1) (ci := 3) (v := .ref (ad 4)) (C := RX3) (T := TX3) (N := 30) hx hb hts in_X3 hown hK hP 0 rfl rfl 4 (by decide) (hts _ q1301) (fun _ h9 => h9) rfl dX3_isImageAt_2 ?_
    refine lv_iload_n hx hb dX3_isImageAt_5 rfl (lv_at hl 1 rfl) ?_
    refine vp_callSi (W.runS (As := [.ref (ad 4), .int (nI x)]) (rest := [.int (nI i)]) ⟨hx, hb, hml, hown, hts⟩ (m_X3_imageSize l g (ad 4) B x (by omega) (by first | assumption | omega | exact (hB.kd (by omega)).2)) (va_cwS 2 hts (lw_S q1539 q1540 q69 q1541) rfl rfl rfl hdS_X3_imageSize ⟨Nat.le_of_ble_eq_true rfl, Nat.le_of_ble_eq_true rfl⟩) (zpreS hK hN (hP.sub [2] rfl)) rfl rfl hl.1 rfl (lv_room (Nat.le_of_ble_eq_true rfl)) dX3_isImageAt_6 ⟨Nat.le_of_ble_eq_true rfl, Nat.le_of_ble_eq_true rfl⟩) (fun r_6 hr_6 => ?_)
    subst hr_6
    refine lv_iadd hx hb dX3_isImageAt_9 ?_
    refine zti (nI_add i (bil B x)) ?_
    refine lv_iload hx hb dX3_isImageAt_10 (lv_at hl 4 rfl) ?_
    refine zc_gt (tgt := 19) hx hb (by omega) (by omega) dX3_isImageAt_12 (by decide) (fun c_12 => ?_) (fun c_12 => ?_)
    · refine lv_iconst (v := nI 0) hx hb dX3_isImageAt_19 (by decide) ?_
      exact jn_0 _ ((zB_f (by omega)).symm)
    · refine lv_iconst (v := nI 1) hx hb dX3_isImageAt_15 (by decide) ?_
      refine lv_goto (tgt := 20) hx hb dX3_isImageAt_16 (by decide) ?_
      exact jn_0 _ ((zB_t (by omega)).symm)
