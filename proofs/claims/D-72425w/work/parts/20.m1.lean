/-! the twin: readers -/
set_option maxHeartbeats 4000000 in
set_option maxRecDepth 100000 in
/-- v lies from a to b -/
theorem m_X3_in (l : Launch) (g : zG) (v a b : Int64) : Met l yX3_in (ws_ yX3_in cX3_in 6 (some .boolean)) ({ frames := 0, cells := 0, slots := 0, locals := 0 }) (zPc g [.long v, .long a, .long b] (fun H => True)) (vp_Si (fun z : Int32 => z = zB (a ≤ v ∧ v ≤ b))) 0 0 (fun _ => False) := by
  refine Met.ofW (cc := cX3_in) (maxL := 6) (ret := (some .boolean)) (by decide) rfl ?_
  intro p e s m args below meth c s₁ B0 hml hv
  obtain ⟨rfl, ⟨hK, hN⟩, hP⟩ := hv
  have hx := B0.exec
  have hb := B0.bytes
  have hr := B0.returns
  have hts := atoms_spec (ws := ws_ yX3_in cX3_in 6 (some .boolean)) B0.pre
  have hts : ∀ w ∈ lw_all, w.before _ s = true := fun w h => hts w (List.mem_cons_of_mem _ h)
  have hown : s.vm.findClass RX3 = some m.cls := findClass_of_methodNamed B0.named
  have hlocks := B0.notSynchronized
  have hl := lv_entry ([.long v, .long a, .long b]) (n := 6) (Nat.le_of_ble_eq_true rfl)
  rw [lg_entry_eq]
  generalize (lg_sl ([.long v, .long a, .long b]) ++ List.replicate (6 - (lg_sl ([.long v, .long a, .long b])).length) Slot.unset).toArray = ls at hl ⊢
  have hl : lv_has ls 6 [(0, .long v), (2, .long a), (4, .long b)] := hl
  refine lv_lload_n hx hb dX3_in_0 rfl (lv_at hl 0 rfl) ?_
  refine lv_lload_n hx hb dX3_in_1 rfl (lv_at hl 1 rfl) ?_
  refine W.lcmp hx hb dX3_in_2 ?_
  refine lv_if_lt (tgt := 17) hx hb dX3_in_3 (by decide) (fun c_3 => ?_) (fun c_3 => ?_)
  · refine lv_iconst (v := nI 0) hx hb dX3_in_17 (by decide) ?_
    exact W.zret (v := nI 0) hx hb hr rfl (fun t ht hW => ⟨_, rfl, (zin_a c_3), ht⟩) (fun _ h => absurd h List.not_mem_nil) dX3_in_18
  · refine lv_lload_n hx hb dX3_in_6 rfl (lv_at hl 0 rfl) ?_
    refine lv_lload hx hb dX3_in_7 (lv_at hl 2 rfl) ?_
    refine W.lcmp hx hb dX3_in_9 ?_
    refine lv_if_gt (tgt := 17) hx hb dX3_in_10 (by decide) (fun c_10 => ?_) (fun c_10 => ?_)
    · refine lv_iconst (v := nI 0) hx hb dX3_in_17 (by decide) ?_
      exact W.zret (v := nI 0) hx hb hr rfl (fun t ht hW => ⟨_, rfl, (zin_b c_10), ht⟩) (fun _ h => absurd h List.not_mem_nil) dX3_in_18
    · refine lv_iconst (v := nI 1) hx hb dX3_in_13 (by decide) ?_
      refine lv_goto (tgt := 18) hx hb dX3_in_14 (by decide) ?_
      exact W.zret (v := nI 1) hx hb hr rfl (fun t ht hW => ⟨_, rfl, (zin_1 c_3 c_10), ht⟩) (fun _ h => absurd h List.not_mem_nil) dX3_in_18

set_option maxHeartbeats 4000000 in
set_option maxRecDepth 100000 in
theorem m_X3_isRow (l : Launch) (g : zG) (x : Int32) : Met l yX3_isRow (ws_ yX3_isRow cX3_isRow 1 (some .boolean)) ({ frames := 1, cells := 0, slots := 0, locals := 25 }) (zPc g [.int x] (fun H => True)) (vp_Si (fun z : Int32 => z = zB (zIn x 0 7))) 0 0 (fun _ => False) := by
  refine Met.ofW (cc := cX3_isRow) (maxL := 1) (ret := (some .boolean)) (by decide) rfl ?_
  intro p e s m args below meth c s₁ B0 hml hv
  obtain ⟨rfl, ⟨hK, hN⟩, hP⟩ := hv
  have hx := B0.exec
  have hb := B0.bytes
  have hr := B0.returns
  have hts := atoms_spec (ws := ws_ yX3_isRow cX3_isRow 1 (some .boolean)) B0.pre
  have hts : ∀ w ∈ lw_all, w.before _ s = true := fun w h => hts w (List.mem_cons_of_mem _ h)
  have hown : s.vm.findClass RX3 = some m.cls := findClass_of_methodNamed B0.named
  have hlocks := B0.notSynchronized
  have hl := lv_entry ([.int x]) (n := 1) (Nat.le_of_ble_eq_true rfl)
  rw [lg_entry_eq]
  generalize (lg_sl ([.int x]) ++ List.replicate (1 - (lg_sl ([.int x])).length) Slot.unset).toArray = ls at hl ⊢
  have hl : lv_has ls 1 [(0, .int x)] := hl
  refine lv_iload_n hx hb dX3_isRow_0 rfl (lv_at hl 0 rfl) ?_
  refine lv_i2l hx hb dX3_isRow_1 rfl ?_
  refine lv_lconst (v := lN 0) hx hb dX3_isRow_2 (by decide) ?_
  refine lv_ldc2 hx hb hown (hts _ q1396) dX3_isRow_3 ?_
  refine ztl (show (7 : Int64) = lN 7 from rfl) ?_
  refine vp_callSi (W.runS (As := [.long x.toInt64, .long (lN 0), .long (lN 7)]) (rest := []) ⟨hx, hb, hml, hown, hts⟩ (m_X3_in l g x.toInt64 (lN 0) (lN 7)) (va_cwS 3 hts (lw_S q1397 q1398 q69 q1399) rfl rfl rfl hdS_X3_in ⟨Nat.le_of_ble_eq_true rfl, Nat.le_of_ble_eq_true rfl⟩) (zpreS hK hN trivial) rfl rfl hl.1 rfl (lv_room (Nat.le_of_ble_eq_true rfl)) dX3_isRow_6 ⟨Nat.le_of_ble_eq_true rfl, Nat.le_of_ble_eq_true rfl⟩) (fun r_6 hr_6 => ?_)
  subst hr_6
  refine zti (show _ = zB (zIn x 0 7) from zB_c (zIn_l x (by omega) (by omega))) ?_
  exact W.zret (v := zB (zIn x 0 7)) hx hb hr (zB_nar _) (fun t ht hW => ⟨_, rfl, rfl, ht⟩) (fun _ h => absurd h List.not_mem_nil) dX3_isRow_9

set_option maxHeartbeats 4000000 in
set_option maxRecDepth 100000 in
theorem m_X3_isThere (l : Launch) (g : zG) (ad : Nat → Nat) (fi : Nat → Int32) (B : Nat → Nat) (hB : bOK B) : Met l yX3_isThere (ws_ yX3_isThere cX3_isThere 1 (some .boolean)) ({ frames := 0, cells := 0, slots := 0, locals := 0 }) (zPc g [.ref (ad 0)] (fun H => va_P g.1 zCL [(ad 0, .inr (3, mO ad fi)), (ad 4, .inl (g.2 0, 44, .inl (nF B)))] H)) (vp_Si (fun z : Int32 => z = zB (0 < B 0))) 0 0 (fun _ => False) := by
  refine Met.ofW (cc := cX3_isThere) (maxL := 1) (ret := (some .boolean)) (by decide) rfl ?_
  intro p e s m args below meth c s₁ B0 hml hv
  obtain ⟨rfl, ⟨hK, hN⟩, hP⟩ := hv
  have hx := B0.exec
  have hb := B0.bytes
  have hr := B0.returns
  have hts := atoms_spec (ws := ws_ yX3_isThere cX3_isThere 1 (some .boolean)) B0.pre
  have hts : ∀ w ∈ lw_all, w.before _ s = true := fun w h => hts w (List.mem_cons_of_mem _ h)
  have hown : s.vm.findClass RX3 = some m.cls := findClass_of_methodNamed B0.named
  have hlocks := B0.notSynchronized
  have hl := lv_entry ([.ref (ad 0)]) (n := 1) (Nat.le_of_ble_eq_true rfl)
  rw [lg_entry_eq]
  generalize (lg_sl ([.ref (ad 0)]) ++ List.replicate (1 - (lg_sl ([.ref (ad 0)])).length) Slot.unset).toArray = ls at hl ⊢
  have hl : lv_has ls 1 [(0, .ref (ad 0))] := hl
  have h0 : B 0 ≤ 4 := hB.n4
  have h3 : B 3 ≤ 8 := hB.r8
  refine lv_aload_n hx hb dX3_isThere_0 rfl (lv_at hl 0 rfl) ?_
  refine va_get (D := g.1) (ci := 3) (v := .ref (ad 4)) (C := RX3) (T := TX3) (N := 30) hx hb hts in_X3 hown hK hP 0 rfl rfl 4 (by decide) (hts _ q1301) (fun _ h9 => h9) rfl dX3_isThere_1 ?_
  refine lv_iconst (v := nI 0) hx hb dX3_isThere_4 (by decide) ?_
  refine zald hx hb hK hP 1 0 rfl rfl (j := 0) (by omega) (by decide) dX3_isThere_5 ?_
  refine zti (show (nF B) 0 = nI (B 0) from rfl) ?_
  refine zi_le (tgt := 13) hx hb (by omega) dX3_isThere_6 (by decide) (fun c_6 => ?_) (fun c_6 => ?_)
  · refine lv_iconst (v := nI 0) hx hb dX3_isThere_13 (by decide) ?_
    exact W.zret (v := nI 0) hx hb hr rfl (fun t ht hW => ⟨_, rfl, (zB_f c_6).symm, ht⟩) (fun _ h => absurd h List.not_mem_nil) dX3_isThere_14
  · refine lv_iconst (v := nI 1) hx hb dX3_isThere_9 (by decide) ?_
    refine lv_goto (tgt := 14) hx hb dX3_isThere_10 (by decide) ?_
    exact W.zret (v := nI 1) hx hb hr rfl (fun t ht hW => ⟨_, rfl, (zB_t c_6).symm, ht⟩) (fun _ h => absurd h List.not_mem_nil) dX3_isThere_14

set_option maxHeartbeats 4000000 in
set_option maxRecDepth 100000 in
theorem m_X3_isSort (l : Launch) (g : zG) (ad : Nat → Nat) (fi : Nat → Int32) (B : Nat → Nat) (hB : bOK B) (x : Int32) : Met l yX3_isSort (ws_ yX3_isSort cX3_isSort 2 (some .boolean)) ({ frames := 1, cells := 0, slots := 0, locals := 25 }) (zPc g [.ref (ad 0), .int x] (fun H => va_P g.1 zCL [(ad 0, .inr (3, mO ad fi)), (ad 4, .inl (g.2 0, 44, .inl (nF B)))] H)) (vp_Si (fun z : Int32 => z = zB (zIn x 0 ((B 0 : Nat) - 1 : Int)))) 0 0 (fun _ => False) := by
  refine Met.ofW (cc := cX3_isSort) (maxL := 2) (ret := (some .boolean)) (by decide) rfl ?_
  intro p e s m args below meth c s₁ B0 hml hv
  obtain ⟨rfl, ⟨hK, hN⟩, hP⟩ := hv
  have hx := B0.exec
  have hb := B0.bytes
  have hr := B0.returns
  have hts := atoms_spec (ws := ws_ yX3_isSort cX3_isSort 2 (some .boolean)) B0.pre
  have hts : ∀ w ∈ lw_all, w.before _ s = true := fun w h => hts w (List.mem_cons_of_mem _ h)
  have hown : s.vm.findClass RX3 = some m.cls := findClass_of_methodNamed B0.named
  have hlocks := B0.notSynchronized
  have hl := lv_entry ([.ref (ad 0), .int x]) (n := 2) (Nat.le_of_ble_eq_true rfl)
  rw [lg_entry_eq]
  generalize (lg_sl ([.ref (ad 0), .int x]) ++ List.replicate (2 - (lg_sl ([.ref (ad 0), .int x])).length) Slot.unset).toArray = ls at hl ⊢
  have hl : lv_has ls 2 [(0, .ref (ad 0)), (1, .int x)] := hl
  have h0 : B 0 ≤ 4 := hB.n4
  have h3 : B 3 ≤ 8 := hB.r8
  refine lv_iload_n hx hb dX3_isSort_0 rfl (lv_at hl 1 rfl) ?_
  refine lv_i2l hx hb dX3_isSort_1 rfl ?_
  refine lv_lconst (v := lN 0) hx hb dX3_isSort_2 (by decide) ?_
  refine lv_aload_n hx hb dX3_isSort_3 rfl (lv_at hl 0 rfl) ?_
  refine va_get (D := g.1) (ci := 3) (v := .ref (ad 4)) (C := RX3) (T := TX3) (N := 30) hx hb hts in_X3 hown hK hP 0 rfl rfl 4 (by decide) (hts _ q1301) (fun _ h9 => h9) rfl dX3_isSort_4 ?_
  refine lv_iconst (v := nI 0) hx hb dX3_isSort_7 (by decide) ?_
  refine zald hx hb hK hP 1 0 rfl rfl (j := 0) (by omega) (by decide) dX3_isSort_8 ?_
  refine zti (show (nF B) 0 = nI (B 0) from rfl) ?_
  refine lv_iconst (v := nI 1) hx hb dX3_isSort_9 (by decide) ?_
  refine lv_isub hx hb dX3_isSort_10 ?_
  refine lv_i2l hx hb dX3_isSort_11 rfl ?_
  refine vp_callSi (W.runS (As := [.long x.toInt64, .long (lN 0), .long (((nI (B 0)) - (nI 1)).toInt64)]) (rest := []) ⟨hx, hb, hml, hown, hts⟩ (m_X3_in l g x.toInt64 (lN 0) (((nI (B 0)) - (nI 1)).toInt64)) (va_cwS 3 hts (lw_S q1397 q1398 q69 q1399) rfl rfl rfl hdS_X3_in ⟨Nat.le_of_ble_eq_true rfl, Nat.le_of_ble_eq_true rfl⟩) (zpreS hK hN trivial) rfl rfl hl.1 rfl (lv_room (Nat.le_of_ble_eq_true rfl)) dX3_isSort_12 ⟨Nat.le_of_ble_eq_true rfl, Nat.le_of_ble_eq_true rfl⟩) (fun r_12 hr_12 => ?_)
  subst hr_12
  refine zti (zB_c (zIn_w x ((nI (B 0)) - (nI 1)) (by omega))) ?_
  refine zti (show zB (zIn x 0 ((nI (B 0)) - (nI 1)).toInt) = zB (zIn x 0 (((B 0) : Nat) - 1 : Int)) from by rw [show nI 1 = (1 : Int32) from rfl, zpred (by omega)]) ?_
  exact W.zret (v := zB (zIn x 0 (((B 0) : Nat) - 1 : Int))) hx hb hr (zB_nar _) (fun t ht hW => ⟨_, rfl, rfl, ht⟩) (fun _ h => absurd h List.not_mem_nil) dX3_isSort_15

set_option maxHeartbeats 4000000 in
set_option maxRecDepth 100000 in
theorem m_X3_has (l : Launch) (g : zG) (S k : Int32) : Met l yX3_has (ws_ yX3_has cX3_has 2 (some .boolean)) ({ frames := 0, cells := 0, slots := 0, locals := 0 }) (zPc g [.int S, .int k] (fun H => True)) (vp_Si (fun z : Int32 => z = zB (zhas S k))) 0 0 (fun _ => False) := by
  refine Met.ofW (cc := cX3_has) (maxL := 2) (ret := (some .boolean)) (by decide) rfl ?_
  intro p e s m args below meth c s₁ B0 hml hv
  obtain ⟨rfl, ⟨hK, hN⟩, hP⟩ := hv
  have hx := B0.exec
  have hb := B0.bytes
  have hr := B0.returns
  have hts := atoms_spec (ws := ws_ yX3_has cX3_has 2 (some .boolean)) B0.pre
  have hts : ∀ w ∈ lw_all, w.before _ s = true := fun w h => hts w (List.mem_cons_of_mem _ h)
  have hown : s.vm.findClass RX3 = some m.cls := findClass_of_methodNamed B0.named
  have hlocks := B0.notSynchronized
  have hl := lv_entry ([.int S, .int k]) (n := 2) (Nat.le_of_ble_eq_true rfl)
  rw [lg_entry_eq]
  generalize (lg_sl ([.int S, .int k]) ++ List.replicate (2 - (lg_sl ([.int S, .int k])).length) Slot.unset).toArray = ls at hl ⊢
  have hl : lv_has ls 2 [(0, .int S), (1, .int k)] := hl
  refine lv_iload_n hx hb dX3_has_0 rfl (lv_at hl 0 rfl) ?_
  refine lv_iload_n hx hb dX3_has_1 rfl (lv_at hl 1 rfl) ?_
  refine lv_ishr hx hb dX3_has_2 ?_
  refine lv_iconst (v := nI 1) hx hb dX3_has_3 (by decide) ?_
  refine lv_iand hx hb dX3_has_4 ?_
  refine lv_iconst (v := nI 1) hx hb dX3_has_5 (by decide) ?_
  refine lv_icmp_ne (tgt := 13) hx hb dX3_has_6 (by decide) (fun c_6 => ?_) (fun c_6 => ?_)
  · refine lv_iconst (v := nI 0) hx hb dX3_has_13 (by decide) ?_
    exact W.zret (v := nI 0) hx hb hr rfl (fun t ht hW => ⟨_, rfl, (zB_f c_6).symm, ht⟩) (fun _ h => absurd h List.not_mem_nil) dX3_has_14
  · refine lv_iconst (v := nI 1) hx hb dX3_has_9 (by decide) ?_
    refine lv_goto (tgt := 14) hx hb dX3_has_10 (by decide) ?_
    exact W.zret (v := nI 1) hx hb hr rfl (fun t ht hW => ⟨_, rfl, (zB_t c_6).symm, ht⟩) (fun _ h => absurd h List.not_mem_nil) dX3_has_14

set_option maxHeartbeats 4000000 in
set_option maxRecDepth 100000 in
theorem m_X3_sizeOf (l : Launch) (g : zG) (S : Int32) : Met l yX3_sizeOf (ws_ yX3_sizeOf cX3_sizeOf 3 (some .int)) ({ frames := 1, cells := 0, slots := 0, locals := 21 }) (zPc g [.int S] (fun H => True)) (vp_Si (fun z : Int32 => z = nI (zsz S))) 0 0 (fun _ => False) := by
  refine Met.ofW (cc := cX3_sizeOf) (maxL := 3) (ret := (some .int)) (by decide) rfl ?_
  intro p e s m args below meth c s₁ B0 hml hv
  obtain ⟨rfl, ⟨hK, hN⟩, hP⟩ := hv
  have hx := B0.exec
  have hb := B0.bytes
  have hr := B0.returns
  have hts := atoms_spec (ws := ws_ yX3_sizeOf cX3_sizeOf 3 (some .int)) B0.pre
  have hts : ∀ w ∈ lw_all, w.before _ s = true := fun w h => hts w (List.mem_cons_of_mem _ h)
  have hown : s.vm.findClass RX3 = some m.cls := findClass_of_methodNamed B0.named
  have hlocks := B0.notSynchronized
  have hl := lv_entry ([.int S]) (n := 3) (Nat.le_of_ble_eq_true rfl)
  rw [lg_entry_eq]
  generalize (lg_sl ([.int S]) ++ List.replicate (3 - (lg_sl ([.int S])).length) Slot.unset).toArray = ls at hl ⊢
  have hl : lv_has ls 3 [(0, .int S)] := hl
  refine lv_iconst (v := nI 0) hx hb dX3_sizeOf_0 (by decide) ?_
  refine lv_istore_n (lv' := [(1, .int (nI 0)), (0, .int S)]) hx hb dX3_sizeOf_1 rfl hl (by decide) rfl (fun ls hl => ?_)
  refine lv_iconst (v := nI 0) hx hb dX3_sizeOf_2 (by decide) ?_
  refine lv_istore_n (lv' := [(2, .int (nI 0)), (1, .int (nI 0)), (0, .int S)]) hx hb dX3_sizeOf_3 rfl hl (by decide) rfl (fun ls hl => ?_)
  refine zloop (head := 4) (nL := 3) (16) (fun k => [(0, .int S), (1, .int (nI (zcnt (fun k => zhas S (nI k)) k))), (2, .int (nI k))]) (fun k hv_k ih_4 ls hl => ?_) 0 (Nat.zero_le _) (lv_sub hl [2, 1, 0] rfl)
  have hq := zcnt_le (fun k => zhas S (nI k)) k
  refine lv_iload_n hx hb dX3_sizeOf_4 rfl (lv_at hl 2 rfl) ?_
  refine lv_bipush (v := nI 16) hx hb dX3_sizeOf_5 (by decide) ?_
  refine zc_ge (tgt := 32) hx hb (by omega) (by omega) dX3_sizeOf_7 (by decide) (fun c_7 => ?_) (fun c_7 => ?_)
  · refine lv_iload_n hx hb dX3_sizeOf_32 rfl (lv_at hl 1 rfl) ?_
    exact W.iret (v := nI (zcnt (fun k => zhas S (nI k)) k)) hx hb hr (fun t ht hW => ⟨_, rfl, (by rw [show k = 16 by omega]; rfl), ht⟩) (fun _ h => absurd h List.not_mem_nil) dX3_sizeOf_33
  · refine lv_iload_n hx hb dX3_sizeOf_10 rfl (lv_at hl 1 rfl) ?_
    refine zjoin (ls := ls) (α := Int32) (fun v9 => v9 = nI (zif (zhas S (nI k)) 1 0)) (fun v9 => .int v9 :: [.int (nI (zcnt (fun k => zhas S (nI k)) k))]) 24 (fun v9 hv => ?_) (fun jn_11 => ?_)
    · subst hv
      refine lv_iadd hx hb dX3_sizeOf_24 ?_
      refine zti (nI_add (zcnt (fun k => zhas S (nI k)) k) (zif (zhas S (nI k)) 1 0)) ?_
      refine lv_istore_n (lv' := [(1, .int (nI (zcnt (fun k => zhas S (nI k)) k + zif (zhas S (nI k)) 1 0))), (0, .int S), (2, .int (nI k))]) hx hb dX3_sizeOf_25 rfl hl (by decide) rfl (fun ls hl => ?_)
      refine lv_iinc (v := nI (k + 1)) (lv' := [(2, .int (nI (k + 1))), (1, .int (nI (zcnt (fun k => zhas S (nI k)) k + zif (zhas S (nI k)) 1 0))), (0, .int S)]) hx hb dX3_sizeOf_26 hl (k := 2) rfl (nI_add k 1) (by decide) rfl (fun ls hl => ?_)
      refine lv_goto (tgt := 4) hx hb dX3_sizeOf_29 (by decide) ?_
      exact ih_4 (by omega) _ (lv_sub hl [2, 1, 0] rfl)
    · refine lv_iload_n hx hb dX3_sizeOf_11 rfl (lv_at hl 0 rfl) ?_
      refine lv_iload_n hx hb dX3_sizeOf_12 rfl (lv_at hl 2 rfl) ?_
      refine vp_callSi (W.runS (As := [.int S, .int (nI k)]) (rest := [.int (nI (zcnt (fun k => zhas S (nI k)) k))]) ⟨hx, hb, hml, hown, hts⟩ (m_X3_has l g S (nI k)) (va_cwS 2 hts (lw_S q1617 q1618 q69 q1619) rfl rfl rfl hdS_X3_has ⟨Nat.le_of_ble_eq_true rfl, Nat.le_of_ble_eq_true rfl⟩) (zpreS hK hN trivial) rfl rfl hl.1 rfl (lv_room (Nat.le_of_ble_eq_true rfl)) dX3_sizeOf_13 ⟨Nat.le_of_ble_eq_true rfl, Nat.le_of_ble_eq_true rfl⟩) (fun r_13 hr_13 => ?_)
      subst hr_13
      refine zi_eqB (tgt := 23) hx hb dX3_sizeOf_16 (by decide) (fun c_16 => ?_) (fun c_16 => ?_)
      · refine lv_iconst (v := nI 0) hx hb dX3_sizeOf_23 (by decide) ?_
        exact jn_11 _ ((congrArg nI (zif_f c_16)).symm)
      · refine lv_iconst (v := nI 1) hx hb dX3_sizeOf_19 (by decide) ?_
        refine lv_goto (tgt := 24) hx hb dX3_sizeOf_20 (by decide) ?_
        exact jn_11 _ ((congrArg nI (zif_t c_16)).symm)

set_option maxHeartbeats 4000000 in
set_option maxRecDepth 100000 in
theorem m_X3_kindOf (l : Launch) (g : zG) (rw : Nat) (B : Nat → Nat) (x : Nat) (hx : x < 4) : Met l yX3_kindOf (ws_ yX3_kindOf cX3_kindOf 2 (some .int)) ({ frames := 0, cells := 0, slots := 0, locals := 0 }) (zPc g [.ref rw, .int (nI x)] (fun H => va_P g.1 zCL [(rw, .inl (g.2 0, 44, .inl (nF B)))] H)) (vp_Si (fun z : Int32 => z = nI (bkd B x))) 0 0 (fun _ => False) := by
  refine Met.ofW (cc := cX3_kindOf) (maxL := 2) (ret := (some .int)) (by decide) rfl ?_
  intro p e s m args below meth c s₁ B0 hml hv
  obtain ⟨rfl, ⟨hK, hN⟩, hP⟩ := hv
  have hx := B0.exec
  have hb := B0.bytes
  have hr := B0.returns
  have hts := atoms_spec (ws := ws_ yX3_kindOf cX3_kindOf 2 (some .int)) B0.pre
  have hts : ∀ w ∈ lw_all, w.before _ s = true := fun w h => hts w (List.mem_cons_of_mem _ h)
  have hown : s.vm.findClass RX3 = some m.cls := findClass_of_methodNamed B0.named
  have hlocks := B0.notSynchronized
  have hl := lv_entry ([.ref rw, .int (nI x)]) (n := 2) (Nat.le_of_ble_eq_true rfl)
  rw [lg_entry_eq]
  generalize (lg_sl ([.ref rw, .int (nI x)]) ++ List.replicate (2 - (lg_sl ([.ref rw, .int (nI x)])).length) Slot.unset).toArray = ls at hl ⊢
  have hl : lv_has ls 2 [(0, .ref rw), (1, .int (nI x))] := hl
  refine lv_aload_n hx hb dX3_kindOf_0 rfl (lv_at hl 0 rfl) ?_
  refine lv_bipush (v := nI 12) hx hb dX3_kindOf_1 (by decide) ?_
  refine lv_bipush (v := nI 8) hx hb dX3_kindOf_3 (by decide) ?_
  refine lv_iload_n hx hb dX3_kindOf_5 rfl (lv_at hl 1 rfl) ?_
  refine lv_imul hx hb dX3_kindOf_6 ?_
  refine zti (pk_mul 8 x) ?_
  refine lv_iadd hx hb dX3_kindOf_7 ?_
  refine zti (nI_add 12 (8 * x)) ?_
  refine zald hx hb hK hP 0 0 rfl rfl (j := 12 + 8 * x) (by omega) (by decide) dX3_kindOf_8 ?_
  refine zti (show (nF B) (12 + 8 * x) = nI (B (12 + 8 * x)) from rfl) ?_
  exact W.iret (v := nI (B (12 + 8 * x))) hx hb hr (fun t ht hW => ⟨_, rfl, rfl, ht⟩) (fun _ h => absurd h List.not_mem_nil) dX3_kindOf_9

set_option maxHeartbeats 4000000 in
set_option maxRecDepth 100000 in
theorem m_X3_wordSize (l : Launch) (g : zG) (rw : Nat) (B : Nat → Nat) (x : Nat) (hx : x < 4) : Met l yX3_wordSize (ws_ yX3_wordSize cX3_wordSize 2 (some .int)) ({ frames := 0, cells := 0, slots := 0, locals := 0 }) (zPc g [.ref rw, .int (nI x)] (fun H => va_P g.1 zCL [(rw, .inl (g.2 0, 44, .inl (nF B)))] H)) (vp_Si (fun z : Int32 => z = nI (bwl B x))) 0 0 (fun _ => False) := by
  refine Met.ofW (cc := cX3_wordSize) (maxL := 2) (ret := (some .int)) (by decide) rfl ?_
  intro p e s m args below meth c s₁ B0 hml hv
  obtain ⟨rfl, ⟨hK, hN⟩, hP⟩ := hv
  have hx := B0.exec
  have hb := B0.bytes
  have hr := B0.returns
  have hts := atoms_spec (ws := ws_ yX3_wordSize cX3_wordSize 2 (some .int)) B0.pre
  have hts : ∀ w ∈ lw_all, w.before _ s = true := fun w h => hts w (List.mem_cons_of_mem _ h)
  have hown : s.vm.findClass RX3 = some m.cls := findClass_of_methodNamed B0.named
  have hlocks := B0.notSynchronized
  have hl := lv_entry ([.ref rw, .int (nI x)]) (n := 2) (Nat.le_of_ble_eq_true rfl)
  rw [lg_entry_eq]
  generalize (lg_sl ([.ref rw, .int (nI x)]) ++ List.replicate (2 - (lg_sl ([.ref rw, .int (nI x)])).length) Slot.unset).toArray = ls at hl ⊢
  have hl : lv_has ls 2 [(0, .ref rw), (1, .int (nI x))] := hl
  refine lv_aload_n hx hb dX3_wordSize_0 rfl (lv_at hl 0 rfl) ?_
  refine lv_bipush (v := nI 12) hx hb dX3_wordSize_1 (by decide) ?_
  refine lv_bipush (v := nI 8) hx hb dX3_wordSize_3 (by decide) ?_
  refine lv_iload_n hx hb dX3_wordSize_5 rfl (lv_at hl 1 rfl) ?_
  refine lv_imul hx hb dX3_wordSize_6 ?_
  refine zti (pk_mul 8 x) ?_
  refine lv_iadd hx hb dX3_wordSize_7 ?_
  refine zti (nI_add 12 (8 * x)) ?_
  refine lv_iconst (v := nI 3) hx hb dX3_wordSize_8 (by decide) ?_
  refine lv_iadd hx hb dX3_wordSize_9 ?_
  refine zti (nI_add (12 + 8 * x) 3) ?_
  refine zald hx hb hK hP 0 0 rfl rfl (j := 12 + 8 * x + 3) (by omega) (by decide) dX3_wordSize_10 ?_
  refine zti (show (nF B) (12 + 8 * x + 3) = nI (B (12 + 8 * x + 3)) from rfl) ?_
  exact W.iret (v := nI (B (12 + 8 * x + 3))) hx hb hr (fun t ht hW => ⟨_, rfl, rfl, ht⟩) (fun _ h => absurd h List.not_mem_nil) dX3_wordSize_11

set_option maxHeartbeats 4000000 in
set_option maxRecDepth 100000 in
theorem m_X3_lengthOf (l : Launch) (g : zG) (rw : Nat) (B : Nat → Nat) (x w : Nat) (hx : x < 4) (hw : w < 2) (hk : bkd B x ≤ 5) : Met l yX3_lengthOf (ws_ yX3_lengthOf cX3_lengthOf 3 (some .int)) ({ frames := 1, cells := 0, slots := 0, locals := 21 }) (zPc g [.ref rw, .int (nI x), .int (nI w)] (fun H => va_P g.1 zCL [(rw, .inl (g.2 0, 44, .inl (nF B)))] H)) (vp_Si (fun z : Int32 => z = nI (bln B x w))) 0 0 (fun _ => False) := by
  refine Met.ofW (cc := cX3_lengthOf) (maxL := 3) (ret := (some .int)) (by decide) rfl ?_
  intro p e s m args below meth c s₁ B0 hml hv
  obtain ⟨rfl, ⟨hK, hN⟩, hP⟩ := hv
  have hx := B0.exec
  have hb := B0.bytes
  have hr := B0.returns
  have hts := atoms_spec (ws := ws_ yX3_lengthOf cX3_lengthOf 3 (some .int)) B0.pre
  have hts : ∀ w ∈ lw_all, w.before _ s = true := fun w h => hts w (List.mem_cons_of_mem _ h)
  have hown : s.vm.findClass RX3 = some m.cls := findClass_of_methodNamed B0.named
  have hlocks := B0.notSynchronized
  have hl := lv_entry ([.ref rw, .int (nI x), .int (nI w)]) (n := 3) (Nat.le_of_ble_eq_true rfl)
  rw [lg_entry_eq]
  generalize (lg_sl ([.ref rw, .int (nI x), .int (nI w)]) ++ List.replicate (3 - (lg_sl ([.ref rw, .int (nI x), .int (nI w)])).length) Slot.unset).toArray = ls at hl ⊢
  have hl : lv_has ls 3 [(0, .ref rw), (1, .int (nI x)), (2, .int (nI w))] := hl
  refine lv_aload_n hx hb dX3_lengthOf_0 rfl (lv_at hl 0 rfl) ?_
  refine lv_bipush (v := nI 12) hx hb dX3_lengthOf_1 (by decide) ?_
  refine lv_bipush (v := nI 8) hx hb dX3_lengthOf_3 (by decide) ?_
  refine lv_iload_n hx hb dX3_lengthOf_5 rfl (lv_at hl 1 rfl) ?_
  refine lv_imul hx hb dX3_lengthOf_6 ?_
  refine zti (pk_mul 8 x) ?_
  refine lv_iadd hx hb dX3_lengthOf_7 ?_
  refine zti (nI_add 12 (8 * x)) ?_
  refine lv_iconst (v := nI 1) hx hb dX3_lengthOf_8 (by decide) ?_
  refine lv_iadd hx hb dX3_lengthOf_9 ?_
  refine zti (nI_add (12 + 8 * x) 1) ?_
  refine lv_iload_n hx hb dX3_lengthOf_10 rfl (lv_at hl 2 rfl) ?_
  refine lv_iadd hx hb dX3_lengthOf_11 ?_
  refine zti (nI_add (12 + 8 * x + 1) w) ?_
  refine zald hx hb hK hP 0 0 rfl rfl (j := 12 + 8 * x + 1 + w) (by omega) (by decide) dX3_lengthOf_12 ?_
  refine zti (show (nF B) (12 + 8 * x + 1 + w) = nI (B (12 + 8 * x + 1 + w)) from rfl) ?_
  refine lv_aload_n hx hb dX3_lengthOf_13 rfl (lv_at hl 0 rfl) ?_
  refine lv_iload_n hx hb dX3_lengthOf_14 rfl (lv_at hl 1 rfl) ?_
  refine vp_callSi (W.runS (As := [.ref rw, .int (nI x)]) (rest := [.int (nI (B (12 + 8 * x + 1 + w)))]) ⟨hx, hb, hml, hown, hts⟩ (m_X3_kindOf l g rw B x (by omega)) (va_cwS 2 hts (lw_S q1510 q1511 q69 q1512) rfl rfl rfl hdS_X3_kindOf ⟨Nat.le_of_ble_eq_true rfl, Nat.le_of_ble_eq_true rfl⟩) (zpreS hK hN hP) rfl rfl hl.1 rfl (lv_room (Nat.le_of_ble_eq_true rfl)) dX3_lengthOf_15 ⟨Nat.le_of_ble_eq_true rfl, Nat.le_of_ble_eq_true rfl⟩) (fun r_15 hr_15 => ?_)
  subst hr_15
  refine lv_iconst (v := nI 3) hx hb dX3_lengthOf_18 (by decide) ?_
  refine zc_ne (tgt := 26) hx hb (by omega) (by omega) dX3_lengthOf_19 (by decide) (fun c_19 => ?_) (fun c_19 => ?_)
  · refine lv_iconst (v := nI 1) hx hb dX3_lengthOf_26 (by decide) ?_
    refine lv_imul hx hb dX3_lengthOf_27 ?_
    refine zti (pk_mul (B (12 + 8 * x + 1 + w)) 1) ?_
    exact W.iret (v := nI ((B (12 + 8 * x + 1 + w)) * 1)) hx hb hr (fun t ht hW => ⟨_, rfl, (by unfold bln; rw [if_neg c_19]), ht⟩) (fun _ h => absurd h List.not_mem_nil) dX3_lengthOf_28
  · refine lv_iconst (v := nI 2) hx hb dX3_lengthOf_22 (by decide) ?_
    refine lv_goto (tgt := 27) hx hb dX3_lengthOf_23 (by decide) ?_
    refine lv_imul hx hb dX3_lengthOf_27 ?_
    refine zti (pk_mul (B (12 + 8 * x + 1 + w)) 2) ?_
    exact W.iret (v := nI ((B (12 + 8 * x + 1 + w)) * 2)) hx hb hr (fun t ht hW => ⟨_, rfl, (by unfold bln; rw [if_pos c_19]), ht⟩) (fun _ h => absurd h List.not_mem_nil) dX3_lengthOf_28

set_option maxHeartbeats 4000000 in
set_option maxRecDepth 100000 in
theorem m_X3_imageSize (l : Launch) (g : zG) (rw : Nat) (B : Nat → Nat) (x : Nat) (hx : x < 4) (hk : bkd B x ≤ 5) : Met l yX3_imageSize (ws_ yX3_imageSize cX3_imageSize 3 (some .int)) ({ frames := 1, cells := 0, slots := 0, locals := 21 }) (zPc g [.ref rw, .int (nI x)] (fun H => va_P g.1 zCL [(rw, .inl (g.2 0, 44, .inl (nF B)))] H)) (vp_Si (fun z : Int32 => z = nI (bil B x))) 0 0 (fun _ => False) := by
  refine Met.ofW (cc := cX3_imageSize) (maxL := 3) (ret := (some .int)) (by decide) rfl ?_
  intro p e s m args below meth c s₁ B0 hml hv
  obtain ⟨rfl, ⟨hK, hN⟩, hP⟩ := hv
  have hx := B0.exec
  have hb := B0.bytes
  have hr := B0.returns
  have hts := atoms_spec (ws := ws_ yX3_imageSize cX3_imageSize 3 (some .int)) B0.pre
  have hts : ∀ w ∈ lw_all, w.before _ s = true := fun w h => hts w (List.mem_cons_of_mem _ h)
  have hown : s.vm.findClass RX3 = some m.cls := findClass_of_methodNamed B0.named
  have hlocks := B0.notSynchronized
  have hl := lv_entry ([.ref rw, .int (nI x)]) (n := 3) (Nat.le_of_ble_eq_true rfl)
  rw [lg_entry_eq]
  generalize (lg_sl ([.ref rw, .int (nI x)]) ++ List.replicate (3 - (lg_sl ([.ref rw, .int (nI x)])).length) Slot.unset).toArray = ls at hl ⊢
  have hl : lv_has ls 3 [(0, .ref rw), (1, .int (nI x))] := hl
  refine lv_aload_n hx hb dX3_imageSize_0 rfl (lv_at hl 0 rfl) ?_
  refine lv_iload_n hx hb dX3_imageSize_1 rfl (lv_at hl 1 rfl) ?_
  refine vp_callSi (W.runS (As := [.ref rw, .int (nI x)]) (rest := []) ⟨hx, hb, hml, hown, hts⟩ (m_X3_kindOf l g rw B x (by omega)) (va_cwS 2 hts (lw_S q1510 q1511 q69 q1512) rfl rfl rfl hdS_X3_kindOf ⟨Nat.le_of_ble_eq_true rfl, Nat.le_of_ble_eq_true rfl⟩) (zpreS hK hN hP) rfl rfl hl.1 rfl (lv_room (Nat.le_of_ble_eq_true rfl)) dX3_imageSize_2 ⟨Nat.le_of_ble_eq_true rfl, Nat.le_of_ble_eq_true rfl⟩) (fun r_2 hr_2 => ?_)
  subst hr_2
  refine lv_istore_n (lv' := [(2, .int (nI (bkd B x))), (0, .ref rw), (1, .int (nI x))]) hx hb dX3_imageSize_5 rfl hl (by decide) rfl (fun ls hl => ?_)
  refine lv_iload_n hx hb dX3_imageSize_6 rfl (lv_at hl 0 rfl) ?_
  refine lv_iconst (v := nI 4) hx hb dX3_imageSize_7 (by decide) ?_
  refine zc_ne (tgt := 15) hx hb (by omega) (by omega) dX3_imageSize_8 (by decide) (fun c_8 => ?_) (fun c_8 => ?_)
  · refine lv_iload_n hx hb dX3_imageSize_15 rfl (lv_at hl 0 rfl) ?_
    refine lv_iconst (v := nI 5) hx hb dX3_imageSize_16 (by decide) ?_
    refine zc_ne (tgt := 24) hx hb (by omega) (by omega) dX3_imageSize_17 (by decide) (fun c_17 => ?_) (fun c_17 => ?_)
    · refine lv_aload_n hx hb dX3_imageSize_24 rfl (lv_at hl 1 rfl) ?_
      refine lv_iload_n hx hb dX3_imageSize_25 rfl (lv_at hl 2 rfl) ?_
      refine vp_callSi (W.runS (As := [.ref rw, .int (nI x)]) (rest := []) ⟨hx, hb, hml, hown, hts⟩ (m_X3_wordSize l g rw B x (by omega)) (va_cwS 2 hts (lw_S q1497 q1498 q69 q1499) rfl rfl rfl hdS_X3_wordSize ⟨Nat.le_of_ble_eq_true rfl, Nat.le_of_ble_eq_true rfl⟩) (zpreS hK hN hP) rfl rfl hl.1 rfl (lv_room (Nat.le_of_ble_eq_true rfl)) dX3_imageSize_26 ⟨Nat.le_of_ble_eq_true rfl, Nat.le_of_ble_eq_true rfl⟩) (fun r_26 hr_26 => ?_)
      subst hr_26
      exact W.iret (v := nI (bwl B x)) hx hb hr (fun t ht hW => ⟨_, rfl, (by unfold bil; rw [if_neg c_8, if_neg c_17]), ht⟩) (fun _ h => absurd h List.not_mem_nil) dX3_imageSize_29
    · refine lv_iconst (v := nI 2) hx hb dX3_imageSize_20 (by decide) ?_
      refine lv_goto (tgt := 29) hx hb dX3_imageSize_21 (by decide) ?_
      exact W.iret (v := nI 2) hx hb hr (fun t ht hW => ⟨_, rfl, (by unfold bil; rw [if_neg c_8, if_pos c_17]), ht⟩) (fun _ h => absurd h List.not_mem_nil) dX3_imageSize_29
  · refine lv_iconst (v := nI 1) hx hb dX3_imageSize_11 (by decide) ?_
    refine lv_goto (tgt := 29) hx hb dX3_imageSize_12 (by decide) ?_
    exact W.iret (v := nI 1) hx hb hr (fun t ht hW => ⟨_, rfl, (by unfold bil; rw [if_pos c_8]), ht⟩) (fun _ h => absurd h List.not_mem_nil) dX3_imageSize_29

set_option maxHeartbeats 4000000 in
set_option maxRecDepth 100000 in
theorem m_X3_imageAt (l : Launch) (g : zG) (rw : Nat) (B : Nat → Nat) (x i : Nat) (hx : x < 4) (hk : bkd B x ≤ 5) (hw : bwl B x ≤ 4) (hi : i < bil B x) : Met l yX3_imageAt (ws_ yX3_imageAt cX3_imageAt 5 (some .int)) ({ frames := 1, cells := 0, slots := 0, locals := 21 }) (zPc g [.ref rw, .int (nI x), .int (nI i)] (fun H => va_P g.1 zCL [(rw, .inl (g.2 0, 44, .inl (nF B)))] H)) (vp_Si (fun z : Int32 => z = nI (bia B x i))) 0 0 (fun _ => False) := by
  refine Met.ofW (cc := cX3_imageAt) (maxL := 5) (ret := (some .int)) (by decide) rfl ?_
  intro p e s m args below meth c s₁ B0 hml hv
  obtain ⟨rfl, ⟨hK, hN⟩, hP⟩ := hv
  have hx := B0.exec
  have hb := B0.bytes
  have hr := B0.returns
  have hts := atoms_spec (ws := ws_ yX3_imageAt cX3_imageAt 5 (some .int)) B0.pre
  have hts : ∀ w ∈ lw_all, w.before _ s = true := fun w h => hts w (List.mem_cons_of_mem _ h)
  have hown : s.vm.findClass RX3 = some m.cls := findClass_of_methodNamed B0.named
  have hlocks := B0.notSynchronized
  have hl := lv_entry ([.ref rw, .int (nI x), .int (nI i)]) (n := 5) (Nat.le_of_ble_eq_true rfl)
  rw [lg_entry_eq]
  generalize (lg_sl ([.ref rw, .int (nI x), .int (nI i)]) ++ List.replicate (5 - (lg_sl ([.ref rw, .int (nI x), .int (nI i)])).length) Slot.unset).toArray = ls at hl ⊢
  have hl : lv_has ls 5 [(0, .ref rw), (1, .int (nI x)), (2, .int (nI i))] := hl
  have hil := hi
  unfold bil at hil
  refine lv_aload_n hx hb dX3_imageAt_0 rfl (lv_at hl 0 rfl) ?_
  refine lv_iload_n hx hb dX3_imageAt_1 rfl (lv_at hl 1 rfl) ?_
  refine vp_callSi (W.runS (As := [.ref rw, .int (nI x)]) (rest := []) ⟨hx, hb, hml, hown, hts⟩ (m_X3_kindOf l g rw B x (by omega)) (va_cwS 2 hts (lw_S q1510 q1511 q69 q1512) rfl rfl rfl hdS_X3_kindOf ⟨Nat.le_of_ble_eq_true rfl, Nat.le_of_ble_eq_true rfl⟩) (zpreS hK hN hP) rfl rfl hl.1 rfl (lv_room (Nat.le_of_ble_eq_true rfl)) dX3_imageAt_2 ⟨Nat.le_of_ble_eq_true rfl, Nat.le_of_ble_eq_true rfl⟩) (fun r_2 hr_2 => ?_)
  subst hr_2
  refine lv_istore_n (lv' := [(3, .int (nI (bkd B x))), (0, .ref rw), (1, .int (nI x)), (2, .int (nI i))]) hx hb dX3_imageAt_5 rfl hl (by decide) rfl (fun ls hl => ?_)
  refine lv_bipush (v := nI 12) hx hb dX3_imageAt_6 (by decide) ?_
  refine lv_bipush (v := nI 8) hx hb dX3_imageAt_8 (by decide) ?_
  refine lv_iload_n hx hb dX3_imageAt_10 rfl (lv_at hl 2 rfl) ?_
  refine lv_imul hx hb dX3_imageAt_11 ?_
  refine zti (pk_mul 8 x) ?_
  refine lv_iadd hx hb dX3_imageAt_12 ?_
  refine zti (nI_add 12 (8 * x)) ?_
  refine lv_iconst (v := nI 4) hx hb dX3_imageAt_13 (by decide) ?_
  refine lv_iadd hx hb dX3_imageAt_14 ?_
  refine zti (nI_add (12 + 8 * x) 4) ?_
  refine lv_istore (lv' := [(4, .int (nI (12 + 8 * x + 4))), (3, .int (nI (bkd B x))), (0, .ref rw), (1, .int (nI x)), (2, .int (nI i))]) hx hb dX3_imageAt_15 hl (by decide) rfl (fun ls hl => ?_)
  refine lv_iload_n hx hb dX3_imageAt_17 rfl (lv_at hl 1 rfl) ?_
  refine lv_iconst (v := nI 4) hx hb dX3_imageAt_18 (by decide) ?_
  refine zc_lt (tgt := 26) hx hb (by omega) (by omega) dX3_imageAt_19 (by decide) (fun c_19 => ?_) (fun c_19 => ?_)
  · refine lv_iload_n hx hb dX3_imageAt_26 rfl (lv_at hl 1 rfl) ?_
    refine lv_iconst (v := nI 2) hx hb dX3_imageAt_27 (by decide) ?_
    refine zc_ne (tgt := 48) hx hb (by omega) (by omega) dX3_imageAt_28 (by decide) (fun c_28 => ?_) (fun c_28 => ?_)
    · rw [if_neg (by omega), if_neg (by omega)] at hil
      refine lv_aload_n hx hb dX3_imageAt_48 rfl (lv_at hl 2 rfl) ?_
      refine lv_iload hx hb dX3_imageAt_49 (lv_at hl 0 rfl) ?_
      refine lv_iload_n hx hb dX3_imageAt_51 rfl (lv_at hl 4 rfl) ?_
      refine lv_iadd hx hb dX3_imageAt_52 ?_
      refine zti (nI_add (12 + 8 * x + 4) i) ?_
      refine zald hx hb hK hP 0 0 rfl rfl (j := 12 + 8 * x + 4 + i) (by omega) (by decide) dX3_imageAt_53 ?_
      refine zti (show (nF B) (12 + 8 * x + 4 + i) = nI (B (12 + 8 * x + 4 + i)) from rfl) ?_
      exact W.iret (v := nI (B (12 + 8 * x + 4 + i))) hx hb hr (fun t ht hW => ⟨_, rfl, (by unfold bia; rw [if_neg (by omega), if_neg (by omega)]), ht⟩) (fun _ h => absurd h List.not_mem_nil) dX3_imageAt_54
    · rw [if_neg (by omega), if_neg (by omega)] at hil
      refine lv_aload_n hx hb dX3_imageAt_31 rfl (lv_at hl 2 rfl) ?_
      refine lv_iload hx hb dX3_imageAt_32 (lv_at hl 0 rfl) ?_
      refine lv_aload_n hx hb dX3_imageAt_34 rfl (lv_at hl 2 rfl) ?_
      refine lv_iload_n hx hb dX3_imageAt_35 rfl (lv_at hl 3 rfl) ?_
      refine vp_callSi (W.runS (As := [.ref rw, .int (nI x)]) (rest := [.int (nI (12 + 8 * x + 4)), .ref rw]) ⟨hx, hb, hml, hown, hts⟩ (m_X3_wordSize l g rw B x (by omega)) (va_cwS 2 hts (lw_S q1497 q1498 q69 q1499) rfl rfl rfl hdS_X3_wordSize ⟨Nat.le_of_ble_eq_true rfl, Nat.le_of_ble_eq_true rfl⟩) (zpreS hK hN hP) rfl rfl hl.1 rfl (lv_room (Nat.le_of_ble_eq_true rfl)) dX3_imageAt_36 ⟨Nat.le_of_ble_eq_true rfl, Nat.le_of_ble_eq_true rfl⟩) (fun r_36 hr_36 => ?_)
      subst hr_36
      refine lv_iadd hx hb dX3_imageAt_39 ?_
      refine zti (nI_add (12 + 8 * x + 4) (bwl B x)) ?_
      refine lv_iconst (v := nI 1) hx hb dX3_imageAt_40 (by decide) ?_
      refine lv_isub hx hb dX3_imageAt_41 ?_
      refine zti (pk_sub (a := 12 + 8 * x + 4 + bwl B x) (b := 1) (by omega)) ?_
      refine lv_iload_n hx hb dX3_imageAt_42 rfl (lv_at hl 4 rfl) ?_
      refine lv_isub hx hb dX3_imageAt_43 ?_
      refine zti (pk_sub (a := 12 + 8 * x + 4 + bwl B x - 1) (b := i) (by omega)) ?_
      refine zald hx hb hK hP 0 0 rfl rfl (j := (12 + 8 * x + 4 + bwl B x - 1) - i) (by omega) (by decide) dX3_imageAt_44 ?_
      refine zti (show (nF B) ((12 + 8 * x + 4 + bwl B x - 1) - i) = nI (B ((12 + 8 * x + 4 + bwl B x - 1) - i)) from rfl) ?_
      refine lv_goto (tgt := 54) hx hb dX3_imageAt_45 (by decide) ?_
      exact W.iret (v := nI (B ((12 + 8 * x + 4 + bwl B x - 1) - i))) hx hb hr (fun t ht hW => ⟨_, rfl, (by unfold bia; rw [if_neg (by omega), if_pos (by omega)]), ht⟩) (fun _ h => absurd h List.not_mem_nil) dX3_imageAt_54
  · refine lv_iload_n hx hb dX3_imageAt_22 rfl (lv_at hl 3 rfl) ?_
    refine lv_goto (tgt := 54) hx hb dX3_imageAt_23 (by decide) ?_
    exact W.iret (v := nI x) hx hb hr (fun t ht hW => ⟨_, rfl, (by unfold bia; rw [if_pos (by omega)]), ht⟩) (fun _ h => absurd h List.not_mem_nil) dX3_imageAt_54
