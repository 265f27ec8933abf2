/-! the twin: readers, 3 -/
set_option maxHeartbeats 4000000 in
set_option maxRecDepth 100000 in
theorem m_X3_lowest (l : Launch) (g : zG) (a b w : Nat) (ha : a < 2 ^ 63) (hb0 : 0 < b) (hb2 : b < 2 ^ 63) (hw : w < 2) : Met l yX3_lowest (ws_ yX3_lowest cX3_lowest 11 (some .long)) ({ frames := 0, cells := 0, slots := 0, locals := 0 }) (zPc g [.long (lN a), .long (lN b), .int (nI w)] (fun H => True)) (vp_Sl (fun z : Int64 => z = lN (zif (w = 0) a b / Nat.gcd a b))) 0 0 (fun _ => False) := by
  refine Met.ofW (cc := cX3_lowest) (maxL := 11) (ret := (some .long)) (by decide) rfl ?_
  intro p e s m args below meth c s₁ B0 hml hv
  obtain ⟨rfl, ⟨hK, hN⟩, hP⟩ := hv
  have hx := B0.exec
  have hb := B0.bytes
  have hr := B0.returns
  have hts := atoms_spec (ws := ws_ yX3_lowest cX3_lowest 11 (some .long)) B0.pre
  have hts : ∀ w ∈ lw_all, w.before _ s = true := fun w h => hts w (List.mem_cons_of_mem _ h)
  have hown : s.vm.findClass RX3 = some m.cls := findClass_of_methodNamed B0.named
  have hlocks := B0.notSynchronized
  have hl := lv_entry ([.long (lN a), .long (lN b), .int (nI w)]) (n := 11) (Nat.le_of_ble_eq_true rfl)
  rw [lg_entry_eq]
  generalize (lg_sl ([.long (lN a), .long (lN b), .int (nI w)]) ++ List.replicate (11 - (lg_sl ([.long (lN a), .long (lN b), .int (nI w)])).length) Slot.unset).toArray = ls at hl ⊢
  have hl : lv_has ls 11 [(0, .long (lN a)), (2, .long (lN b)), (4, .int (nI w))] := hl
  refine lv_lload_n hx hb dX3_lowest_0 rfl (lv_at hl 0 rfl) ?_
  refine lv_lstore (lv' := [(5, .long (lN a)), (0, .long (lN a)), (2, .long (lN b)), (4, .int (nI w))]) hx hb dX3_lowest_1 hl (by decide) rfl (fun ls hl => ?_)
  refine lv_lload_n hx hb dX3_lowest_3 rfl (lv_at hl 2 rfl) ?_
  refine lv_lstore (lv' := [(7, .long (lN b)), (5, .long (lN a)), (0, .long (lN a)), (2, .long (lN b)), (4, .int (nI w))]) hx hb dX3_lowest_4 hl (by decide) rfl (fun ls hl => ?_)
  refine zloopM (σ := Nat × Nat) (head := 6) (nL := 11) (fun q => q.2) (fun q => q.1 < 2 ^ 63 ∧ q.2 < 2 ^ 63 ∧ Nat.gcd q.1 q.2 = Nat.gcd a b) (fun q => [(0, .long (lN a)), (2, .long (lN b)), (4, .int (nI w)), (5, .long (lN q.1)), (7, .long (lN q.2))]) (fun q hI_6 ih_6 ls hl => ?_) (a, b) (⟨ha, hb2, rfl⟩) (lv_sub hl [2, 3, 4, 1, 0] rfl)
  obtain ⟨x, y⟩ := q
  have hI_6 : x < 2 ^ 63 ∧ y < 2 ^ 63 ∧ Nat.gcd x y = Nat.gcd a b := hI_6
  have hl : lv_has ls 11 [(0, .long (lN a)), (2, .long (lN b)), (4, .int (nI w)), (5, .long (lN x)), (7, .long (lN y))] := hl
  have hx63 := hI_6.1
  have hy63 := hI_6.2.1
  refine lv_lload hx hb dX3_lowest_6 (lv_at hl 4 rfl) ?_
  refine lv_lconst (v := lN 0) hx hb dX3_lowest_8 (by decide) ?_
  refine W.lcmp hx hb dX3_lowest_9 ?_
  refine zti (zlc (y := y) (by omega)) ?_
  refine zi_eqB (tgt := 31) hx hb dX3_lowest_10 (by decide) (fun c_10 => ?_) (fun c_10 => ?_)
  · have hy0 : y = 0 := by omega
    have hg : x = Nat.gcd a b := by have := hI_6.2.2; rw [hy0, Nat.gcd_zero_right] at this; exact this
    have hgp : 0 < x := by rw [hg]; exact Nat.gcd_pos_of_pos_right a hb0
    refine zjoin (ls := ls) (α := Int64) (fun v9 => v9 = lN (zif (w = 0) a b)) (fun v9 => .long v9 :: []) 41 (fun v9 hv => ?_) (fun jn_31 => ?_)
    · subst hv
      refine lv_lload hx hb dX3_lowest_41 (lv_at hl 3 rfl) ?_
      have hz : zif (w = 0) a b < 2 ^ 63 := zif_ind (fun z => z < 2 ^ 63) ha hb2
      refine lv_ldiv hx hb dX3_lowest_43 (fun z => absurd ((pk_lEQ (a := x) (b := 0) hx63 (by decide)).mp z) (by omega)) ?_
      refine ztl (pk_lDiv (a := zif (w = 0) a b) (b := x) (by omega) (by omega) (by omega)) ?_
      exact W.lret (v := lN ((zif (w = 0) a b) / x)) hx hb hr (fun t ht hW => ⟨_, rfl, (by rw [hg]), ht⟩) (fun _ h => absurd h List.not_mem_nil) dX3_lowest_44
    · refine lv_iload hx hb dX3_lowest_31 (lv_at hl 2 rfl) ?_
      refine zi_ne (tgt := 40) hx hb (by omega) dX3_lowest_33 (by decide) (fun c_33 => ?_) (fun c_33 => ?_)
      · refine lv_lload_n hx hb dX3_lowest_40 rfl (lv_at hl 1 rfl) ?_
        exact jn_31 _ ((congrArg lN (zif_f c_33)).symm)
      · refine lv_lload_n hx hb dX3_lowest_36 rfl (lv_at hl 0 rfl) ?_
        refine lv_goto (tgt := 41) hx hb dX3_lowest_37 (by decide) ?_
        exact jn_31 _ ((congrArg lN (zif_t c_33)).symm)
  · refine lv_lload hx hb dX3_lowest_13 (lv_at hl 3 rfl) ?_
    refine lv_lload hx hb dX3_lowest_15 (lv_at hl 4 rfl) ?_
    refine lv_lrem hx hb dX3_lowest_17 (fun z => absurd ((pk_lEQ (a := y) (b := 0) hy63 (by decide)).mp z) (by omega)) ?_
    refine ztl (pk_lRem (a := x) (b := y) (by omega) (by omega) (by omega)) ?_
    refine lv_lstore (lv' := [(9, .long (lN (x % y))), (0, .long (lN a)), (2, .long (lN b)), (4, .int (nI w)), (5, .long (lN x)), (7, .long (lN y))]) hx hb dX3_lowest_18 hl (by decide) rfl (fun ls hl => ?_)
    refine lv_lload hx hb dX3_lowest_20 (lv_at hl 5 rfl) ?_
    refine lv_lstore (lv' := [(5, .long (lN y)), (9, .long (lN (x % y))), (0, .long (lN a)), (2, .long (lN b)), (4, .int (nI w)), (7, .long (lN y))]) hx hb dX3_lowest_22 hl (by decide) rfl (fun ls hl => ?_)
    refine lv_lload hx hb dX3_lowest_24 (lv_at hl 1 rfl) ?_
    refine lv_lstore (lv' := [(7, .long (lN (x % y))), (5, .long (lN y)), (9, .long (lN (x % y))), (0, .long (lN a)), (2, .long (lN b)), (4, .int (nI w))]) hx hb dX3_lowest_26 hl (by decide) rfl (fun ls hl => ?_)
    refine lv_goto (tgt := 6) hx hb dX3_lowest_28 (by decide) ?_
    exact ih_6 (y, x % y) (⟨hI_6.2.1, Nat.lt_trans (Nat.mod_lt x c_10) hI_6.2.1, zgcd hI_6.2.2⟩) (Nat.mod_lt x c_10) _ (lv_sub hl [3, 4, 5, 1, 0] rfl)

set_option maxHeartbeats 4000000 in
set_option maxRecDepth 100000 in
theorem m_X3_isOf (l : Launch) (g : zG) (a b : Nat) (ha : a ≤ 5) (hb5 : b ≤ 5) : Met l yX3_isOf (ws_ yX3_isOf cX3_isOf 2 (some .boolean)) ({ frames := 0, cells := 0, slots := 0, locals := 0 }) (zPc g [.int (nI a), .int (nI b)] (fun H => True)) (vp_Si (fun z : Int32 => z = zB (bisOf a b))) 0 0 (fun _ => False) := by
  refine Met.ofW (cc := cX3_isOf) (maxL := 2) (ret := (some .boolean)) (by decide) rfl ?_
  intro p e s m args below meth c s₁ B0 hml hv
  obtain ⟨rfl, ⟨hK, hN⟩, hP⟩ := hv
  have hx := B0.exec
  have hb := B0.bytes
  have hr := B0.returns
  have hts := atoms_spec (ws := ws_ yX3_isOf cX3_isOf 2 (some .boolean)) B0.pre
  have hts : ∀ w ∈ lw_all, w.before _ s = true := fun w h => hts w (List.mem_cons_of_mem _ h)
  have hown : s.vm.findClass RX3 = some m.cls := findClass_of_methodNamed B0.named
  have hlocks := B0.notSynchronized
  have hl := lv_entry ([.int (nI a), .int (nI b)]) (n := 2) (Nat.le_of_ble_eq_true rfl)
  rw [lg_entry_eq]
  generalize (lg_sl ([.int (nI a), .int (nI b)]) ++ List.replicate (2 - (lg_sl ([.int (nI a), .int (nI b)])).length) Slot.unset).toArray = ls at hl ⊢
  have hl : lv_has ls 2 [(0, .int (nI a)), (1, .int (nI b))] := hl
  refine lv_iload_n hx hb dX3_isOf_0 rfl (lv_at hl 1 rfl) ?_
  refine zi_eq (tgt := 29) hx hb (by omega) dX3_isOf_1 (by decide) (fun c_1 => ?_) (fun c_1 => ?_)
  · refine lv_iconst (v := nI 1) hx hb dX3_isOf_29 (by decide) ?_
    refine lv_goto (tgt := 34) hx hb dX3_isOf_30 (by decide) ?_
    exact W.zret (v := nI 1) hx hb hr rfl (fun t ht hW => ⟨_, rfl, (zB_t (by unfold bisOf; omega)).symm, ht⟩) (fun _ h => absurd h List.not_mem_nil) dX3_isOf_34
  · refine lv_iload_n hx hb dX3_isOf_4 rfl (lv_at hl 0 rfl) ?_
    refine lv_iload_n hx hb dX3_isOf_5 rfl (lv_at hl 1 rfl) ?_
    refine zc_eq (tgt := 29) hx hb (by omega) (by omega) dX3_isOf_6 (by decide) (fun c_6 => ?_) (fun c_6 => ?_)
    · refine lv_iconst (v := nI 1) hx hb dX3_isOf_29 (by decide) ?_
      refine lv_goto (tgt := 34) hx hb dX3_isOf_30 (by decide) ?_
      exact W.zret (v := nI 1) hx hb hr rfl (fun t ht hW => ⟨_, rfl, (zB_t (by unfold bisOf; omega)).symm, ht⟩) (fun _ h => absurd h List.not_mem_nil) dX3_isOf_34
    · refine lv_iload_n hx hb dX3_isOf_9 rfl (lv_at hl 1 rfl) ?_
      refine lv_iconst (v := nI 1) hx hb dX3_isOf_10 (by decide) ?_
      refine zc_ne (tgt := 19) hx hb (by omega) (by omega) dX3_isOf_11 (by decide) (fun c_11 => ?_) (fun c_11 => ?_)
      · refine lv_iload_n hx hb dX3_isOf_19 rfl (lv_at hl 1 rfl) ?_
        refine lv_iconst (v := nI 4) hx hb dX3_isOf_20 (by decide) ?_
        refine zc_ne (tgt := 33) hx hb (by omega) (by omega) dX3_isOf_21 (by decide) (fun c_21 => ?_) (fun c_21 => ?_)
        · refine lv_iconst (v := nI 0) hx hb dX3_isOf_33 (by decide) ?_
          exact W.zret (v := nI 0) hx hb hr rfl (fun t ht hW => ⟨_, rfl, (zB_f (by unfold bisOf; omega)).symm, ht⟩) (fun _ h => absurd h List.not_mem_nil) dX3_isOf_34
        · refine lv_iload_n hx hb dX3_isOf_24 rfl (lv_at hl 0 rfl) ?_
          refine lv_iconst (v := nI 5) hx hb dX3_isOf_25 (by decide) ?_
          refine zc_ne (tgt := 33) hx hb (by omega) (by omega) dX3_isOf_26 (by decide) (fun c_26 => ?_) (fun c_26 => ?_)
          · refine lv_iconst (v := nI 0) hx hb dX3_isOf_33 (by decide) ?_
            exact W.zret (v := nI 0) hx hb hr rfl (fun t ht hW => ⟨_, rfl, (zB_f (by unfold bisOf; omega)).symm, ht⟩) (fun _ h => absurd h List.not_mem_nil) dX3_isOf_34
          · refine lv_iconst (v := nI 1) hx hb dX3_isOf_29 (by decide) ?_
            refine lv_goto (tgt := 34) hx hb dX3_isOf_30 (by decide) ?_
            exact W.zret (v := nI 1) hx hb hr rfl (fun t ht hW => ⟨_, rfl, (zB_t (by unfold bisOf; omega)).symm, ht⟩) (fun _ h => absurd h List.not_mem_nil) dX3_isOf_34
      · refine lv_iload_n hx hb dX3_isOf_14 rfl (lv_at hl 0 rfl) ?_
        refine lv_iconst (v := nI 4) hx hb dX3_isOf_15 (by decide) ?_
        refine zc_lt (tgt := 29) hx hb (by omega) (by omega) dX3_isOf_16 (by decide) (fun c_16 => ?_) (fun c_16 => ?_)
        · refine lv_iconst (v := nI 1) hx hb dX3_isOf_29 (by decide) ?_
          refine lv_goto (tgt := 34) hx hb dX3_isOf_30 (by decide) ?_
          exact W.zret (v := nI 1) hx hb hr rfl (fun t ht hW => ⟨_, rfl, (zB_t (by unfold bisOf; omega)).symm, ht⟩) (fun _ h => absurd h List.not_mem_nil) dX3_isOf_34
        · refine lv_iload_n hx hb dX3_isOf_19 rfl (lv_at hl 1 rfl) ?_
          refine lv_iconst (v := nI 4) hx hb dX3_isOf_20 (by decide) ?_
          refine zc_ne (tgt := 33) hx hb (by omega) (by omega) dX3_isOf_21 (by decide) (fun c_21 => ?_) (fun c_21 => ?_)
          · refine lv_iconst (v := nI 0) hx hb dX3_isOf_33 (by decide) ?_
            exact W.zret (v := nI 0) hx hb hr rfl (fun t ht hW => ⟨_, rfl, (zB_f (by unfold bisOf; omega)).symm, ht⟩) (fun _ h => absurd h List.not_mem_nil) dX3_isOf_34
          · refine lv_iload_n hx hb dX3_isOf_24 rfl (lv_at hl 0 rfl) ?_
            refine lv_iconst (v := nI 5) hx hb dX3_isOf_25 (by decide) ?_
            refine zc_ne (tgt := 33) hx hb (by omega) (by omega) dX3_isOf_26 (by decide) (fun c_26 => ?_) (fun c_26 => ?_)
            · refine lv_iconst (v := nI 0) hx hb dX3_isOf_33 (by decide) ?_
              exact W.zret (v := nI 0) hx hb hr rfl (fun t ht hW => ⟨_, rfl, (zB_f (by unfold bisOf; omega)).symm, ht⟩) (fun _ h => absurd h List.not_mem_nil) dX3_isOf_34
            · refine lv_iconst (v := nI 1) hx hb dX3_isOf_29 (by decide) ?_
              refine lv_goto (tgt := 34) hx hb dX3_isOf_30 (by decide) ?_
              exact W.zret (v := nI 1) hx hb hr rfl (fun t ht hW => ⟨_, rfl, (zB_t (by unfold bisOf; omega)).symm, ht⟩) (fun _ h => absurd h List.not_mem_nil) dX3_isOf_34

set_option maxHeartbeats 4000000 in
set_option maxRecDepth 100000 in
theorem m_X3_firstAt (l : Launch) (g : zG) (ad : Nat → Nat) (fi : Nat → Int32) (it : Nat → Int32) (B : Nat → Nat) (hB : bOK B) (E : Nat → Prop) (r i n : Nat) (hr2 : r < 8) (hn : n ≤ 40) (hi : i ≤ n) : Met l yX3_firstAt (ws_ yX3_firstAt cX3_firstAt 6 (some .int)) ({ frames := 3, cells := 0, slots := 0, locals := 71 }) (zPc g [.ref (ad 0), .int (nI r), .int (nI i), .int (nI n)] (fun H => va_P g.1 zCL [(ad 0, .inr (3, mO ad fi)), (ad 3, .inl (g.2 0, 320, .inl it)), (ad 4, .inl (g.2 0, 44, .inl (nF B))), (ad 25, .inl (g.2 3, 41, .inl (zF E)))] H)) (vp_Si (fun z : Int32 => z = zfst (fun x => bimg B (fun j => it (40 * r + j)) x i n ∧ E (i + bil B x)) (-1000000) 0 (B 0))) 0 0 (fun _ => False) := by
  refine Met.ofW (cc := cX3_firstAt) (maxL := 6) (ret := (some .int)) (by decide) rfl ?_
  intro p e s m args below meth c s₁ B0 hml hv
  obtain ⟨rfl, ⟨hK, hN⟩, hP⟩ := hv
  have hx := B0.exec
  have hb := B0.bytes
  have hr := B0.returns
  have hts := atoms_spec (ws := ws_ yX3_firstAt cX3_firstAt 6 (some .int)) B0.pre
  have hts : ∀ w ∈ lw_all, w.before _ s = true := fun w h => hts w (List.mem_cons_of_mem _ h)
  have hown : s.vm.findClass RX3 = some m.cls := findClass_of_methodNamed B0.named
  have hlocks := B0.notSynchronized
  have hl := lv_entry ([.ref (ad 0), .int (nI r), .int (nI i), .int (nI n)]) (n := 6) (Nat.le_of_ble_eq_true rfl)
  rw [lg_entry_eq]
  generalize (lg_sl ([.ref (ad 0), .int (nI r), .int (nI i), .int (nI n)]) ++ List.replicate (6 - (lg_sl ([.ref (ad 0), .int (nI r), .int (nI i), .int (nI n)])).length) Slot.unset).toArray = ls at hl ⊢
  have hl : lv_has ls 6 [(0, .ref (ad 0)), (1, .int (nI r)), (2, .int (nI i)), (3, .int (nI n))] := hl
  have h0 : B 0 ≤ 4 := hB.n4
  have h3 : B 3 ≤ 8 := hB.r8
  refine lv_ldc hx hb hown (hts _ q1433) dX3_firstAt_0 ?_
  refine lv_istore (lv' := [(4, .int (-1000000)), (0, .ref (ad 0)), (1, .int (nI r)), (2, .int (nI i)), (3, .int (nI n))]) hx hb dX3_firstAt_2 hl (by decide) rfl (fun ls hl => ?_)
  refine lv_aload_n hx hb dX3_firstAt_4 rfl (lv_at hl 1 rfl) ?_
  refine va_get (D := g.1) (ci := 3) (v := .ref (ad 4)) (C := RX3) (T := TX3) (N := 30) hx hb hts in_X3 hown hK hP 0 rfl rfl 4 (by decide) (hts _ q1301) (fun _ h9 => h9) rfl dX3_firstAt_5 ?_
  refine lv_iconst (v := nI 0) hx hb dX3_firstAt_8 (by decide) ?_
  refine zald hx hb hK hP 2 0 rfl rfl (j := 0) (by omega) (by decide) dX3_firstAt_9 ?_
  refine zti (show (nF B) 0 = nI (B 0) from rfl) ?_
  refine lv_iconst (v := nI 1) hx hb dX3_firstAt_10 (by decide) ?_
  refine lv_isub hx hb dX3_firstAt_11 ?_
  refine lv_istore (lv' := [(5, .int ((nI (B 0)) - (nI 1))), (4, .int (-1000000)), (0, .ref (ad 0)), (1, .int (nI r)), (2, .int (nI i)), (3, .int (nI n))]) hx hb dX3_firstAt_12 hl (by decide) rfl (fun ls hl => ?_)
  refine zloop (head := 14) (nL := 6) (B 0) (fun k => [(0, .ref (ad 0)), (1, .int (nI r)), (2, .int (nI i)), (3, .int (nI n)), (4, .int (zfst (fun x => bimg B (fun j => it (40 * r + j)) x i n ∧ E (i + bil B x)) (-1000000) (B 0 - k) k)), (5, .int (zdn (B 0 - k)))]) (fun k hv_k ih_14 ls hl => ?_) 0 (Nat.zero_le _) (lv_sub hl [2, 3, 4, 5, 1, 0] rfl)
  rcases Nat.lt_or_ge k (B 0) with hq_14 | hq_14
  · obtain ⟨j, hj⟩ : ∃ j, B 0 - k = j + 1 := ⟨B 0 - k - 1, by omega⟩
    have hl : lv_has ls 6 [(0, .ref (ad 0)), (1, .int (nI r)), (2, .int (nI i)), (3, .int (nI n)), (4, .int (zfst (fun x => bimg B (fun j => it (40 * r + j)) x i n ∧ E (i + bil B x)) (-1000000) (j + 1) k)), (5, .int (zdn (j + 1)))] := by rw [hj] at hl; exact hl
    rw [zdn_s] at hl
    refine lv_iload hx hb dX3_firstAt_14 (lv_at hl 5 rfl) ?_
    refine zi_ltN (tgt := 65) hx hb (by omega) dX3_firstAt_16 (by decide) ?_
    have hj0 : j < B 0 := by omega
    have hjk := (hB.kd hj0).2
    have hjl := (hB.il hj0).2
    refine zjoin (ls := ls) (α := Int32) (fun v9 => v9 = zfst (fun x => bimg B (fun j => it (40 * r + j)) x i n ∧ E (i + bil B x)) (-1000000) j (k + 1)) (fun v9 => .int v9 :: []) 57 (fun v9 hv => ?_) (fun jn_19 => ?_)
    · subst hv
      refine lv_istore (lv' := [(4, .int (zfst (fun x => bimg B (fun j => it (40 * r + j)) x i n ∧ E (i + bil B x)) (-1000000) j (k + 1))), (0, .ref (ad 0)), (1, .int (nI r)), (2, .int (nI i)), (3, .int (nI n)), (5, .int (nI j))]) hx hb dX3_firstAt_57 hl (by decide) rfl (fun ls hl => ?_)
      refine lv_iinc (v := zdn j) (lv' := [(5, .int (zdn j)), (4, .int (zfst (fun x => bimg B (fun j => it (40 * r + j)) x i n ∧ E (i + bil B x)) (-1000000) j (k + 1))), (0, .ref (ad 0)), (1, .int (nI r)), (2, .int (nI i)), (3, .int (nI n))]) hx hb dX3_firstAt_59 hl (k := 5) rfl (zdn_m _) (by decide) rfl (fun ls hl => ?_)
      refine lv_goto (tgt := 14) hx hb dX3_firstAt_62 (by decide) ?_
      exact ih_14 (by omega) _ (by rw [show B 0 - (k + 1) = j by omega]; exact lv_sub hl [2, 3, 4, 5, 1, 0] rfl)
    · refine lv_aload_n hx hb dX3_firstAt_19 rfl (lv_at hl 0 rfl) ?_
      refine lv_iload hx hb dX3_firstAt_20 (lv_at hl 5 rfl) ?_
      refine lv_iload_n hx hb dX3_firstAt_22 rfl (lv_at hl 1 rfl) ?_
      refine lv_iload_n hx hb dX3_firstAt_23 rfl (lv_at hl 2 rfl) ?_
      refine lv_iload_n hx hb dX3_firstAt_24 rfl (lv_at hl 3 rfl) ?_
      refine vp_callSi (W.runV (As := [.int (nI j), .int (nI r), .int (nI i), .int (nI n)]) (rest := []) ⟨hx, hb, hml, hown, hts⟩ (m_X3_isImageAt l g ad fi it B hB j r i n (by omega) (by omega) (by omega) (by omega)) (cwV 4 hts (lw_V q1632 q1634 qs51 q69 q1635) rfl rfl rfl hdV_X3_isImageAt ⟨Nat.le_of_ble_eq_true rfl, Nat.le_of_ble_eq_true rfl⟩) (zpreV hK hN (va_recv hK hP (ci := 3) (q0 := 0) rfl rfl) (hP.sub [0, 1, 2] rfl)) rfl rfl hl.1 rfl (lv_room (Nat.le_of_ble_eq_true rfl)) dX3_firstAt_25 ⟨Nat.le_of_ble_eq_true rfl, Nat.le_of_ble_eq_true rfl⟩) (fun r_25 hr_25 => ?_)
      subst hr_25
      refine zi_eqB (tgt := 55) hx hb dX3_firstAt_28 (by decide) (fun c_28 => ?_) (fun c_28 => ?_)
      · refine lv_iload hx hb dX3_firstAt_55 (lv_at hl 4 rfl) ?_
        exact jn_19 _ ((zif_f (fun z => c_28 z.1)).symm)
      · have hin := c_28.1
        refine lv_aload_n hx hb dX3_firstAt_31 rfl (lv_at hl 0 rfl) ?_
        refine va_get (D := g.1) (ci := 3) (v := .ref (ad 25)) (C := RX3) (T := TX3) (N := 30) hx hb hts in_X3 hown hK hP 0 rfl rfl 25 (by decide) (hts _ q1322) (fun _ h9 => h9) rfl dX3_firstAt_32 ?_
        refine lv_iload_n hx hb dX3_firstAt_35 rfl (lv_at hl 2 rfl) ?_
        refine lv_aload_n hx hb dX3_firstAt_36 rfl (lv_at hl 0 rfl) ?_
        refine va_get (D := g.1) (ci := 3) (v := .ref (ad 4)) (C := RX3) (T := TX3) (N := 30) hx hb hts in_X3 hown hK hP 0 rfl rfl 4 (by decide) (hts _ q1301) (fun _ h9 => h9) rfl dX3_firstAt_37 ?_
        refine lv_iload hx hb dX3_firstAt_40 (lv_at hl 5 rfl) ?_
        refine vp_callSi (W.runS (As := [.ref (ad 4), .int (nI j)]) (rest := [.int (nI i), .ref (ad 25)]) ⟨hx, hb, hml, hown, hts⟩ (m_X3_imageSize l g (ad 4) B j (by omega) (by first | assumption | omega | exact (hB.kd (by omega)).2)) (va_cwS 2 hts (lw_S q1539 q1540 q69 q1541) rfl rfl rfl hdS_X3_imageSize ⟨Nat.le_of_ble_eq_true rfl, Nat.le_of_ble_eq_true rfl⟩) (zpreS hK hN (hP.sub [2] rfl)) rfl rfl hl.1 rfl (lv_room (Nat.le_of_ble_eq_true rfl)) dX3_firstAt_42 ⟨Nat.le_of_ble_eq_true rfl, Nat.le_of_ble_eq_true rfl⟩) (fun r_42 hr_42 => ?_)
        subst hr_42
        refine lv_iadd hx hb dX3_firstAt_45 ?_
        refine zti (nI_add i (bil B j)) ?_
        refine zalz hx hb hK hP 3 3 rfl rfl (j := i + bil B j) (by omega) (by decide) dX3_firstAt_46 ?_
        refine zti (show (zF E) (i + bil B j) = zB (E (i + bil B j)) from rfl) ?_
        refine zi_eqB (tgt := 55) hx hb dX3_firstAt_47 (by decide) (fun c_47 => ?_) (fun c_47 => ?_)
        · refine lv_iload hx hb dX3_firstAt_55 (lv_at hl 4 rfl) ?_
          exact jn_19 _ ((zif_f (fun z => c_47 z.2)).symm)
        · refine lv_iload hx hb dX3_firstAt_50 (lv_at hl 5 rfl) ?_
          refine lv_goto (tgt := 57) hx hb dX3_firstAt_52 (by decide) ?_
          exact jn_19 _ ((zif_t ⟨c_28, c_47⟩).symm)
  · obtain rfl : B 0 = k := by omega
    have hl : lv_has ls 6 [(0, .ref (ad 0)), (1, .int (nI r)), (2, .int (nI i)), (3, .int (nI n)), (4, .int (zfst (fun x => bimg B (fun j => it (40 * r + j)) x i n ∧ E (i + bil B x)) (-1000000) 0 (B 0))), (5, .int (zdn 0))] := by rw [Nat.sub_self] at hl; exact hl
    refine lv_iload hx hb dX3_firstAt_14 (lv_at hl 5 rfl) ?_
    refine lv_if_lt (tgt := 65) hx hb dX3_firstAt_16 (by decide) (fun c_16 => ?_) (fun c_16 => ?_)
    · refine lv_iload hx hb dX3_firstAt_65 (lv_at hl 4 rfl) ?_
      exact W.iret (v := zfst (fun x => bimg B (fun j => it (40 * r + j)) x i n ∧ E (i + bil B x)) (-1000000) 0 (B 0)) hx hb hr (fun t ht hW => ⟨_, rfl, rfl, ht⟩) (fun _ h => absurd h List.not_mem_nil) dX3_firstAt_67
    · exact absurd zdn_0 c_16

set_option maxHeartbeats 4000000 in
set_option maxRecDepth 100000 in
theorem m_X3_isScale (l : Launch) (g : zG) (ad : Nat → Nat) (fi : Nat → Int32) (B : Nat → Nat) (hB : bOK B) (a b : Nat) (ha : a ≤ 9) (hb9 : b ≤ 9) : Met l yX3_isScale (ws_ yX3_isScale cX3_isScale 10 (some .boolean)) ({ frames := 2, cells := 0, slots := 0, locals := 45 }) (zPc g [.ref (ad 0), .int (nI a), .int (nI b)] (fun H => va_P g.1 zCL [(ad 0, .inr (3, mO ad fi)), (ad 4, .inl (g.2 0, 44, .inl (nF B)))] H)) (vp_Si (fun z : Int32 => z = zB (bscale B a b))) 0 0 (fun _ => False) := by
  refine Met.ofW (cc := cX3_isScale) (maxL := 10) (ret := (some .boolean)) (by decide) rfl ?_
  intro p e s m args below meth c s₁ B0 hml hv
  obtain ⟨rfl, ⟨hK, hN⟩, hP⟩ := hv
  have hx := B0.exec
  have hb := B0.bytes
  have hr := B0.returns
  have hts := atoms_spec (ws := ws_ yX3_isScale cX3_isScale 10 (some .boolean)) B0.pre
  have hts : ∀ w ∈ lw_all, w.before _ s = true := fun w h => hts w (List.mem_cons_of_mem _ h)
  have hown : s.vm.findClass RX3 = some m.cls := findClass_of_methodNamed B0.named
  have hlocks := B0.notSynchronized
  have hl := lv_entry ([.ref (ad 0), .int (nI a), .int (nI b)]) (n := 10) (Nat.le_of_ble_eq_true rfl)
  rw [lg_entry_eq]
  generalize (lg_sl ([.ref (ad 0), .int (nI a), .int (nI b)]) ++ List.replicate (10 - (lg_sl ([.ref (ad 0), .int (nI a), .int (nI b)])).length) Slot.unset).toArray = ls at hl ⊢
  have hl : lv_has ls 10 [(0, .ref (ad 0)), (1, .int (nI a)), (2, .int (nI b))] := hl
  have h0 : B 0 ≤ 4 := hB.n4
  have h3 : B 3 ≤ 8 := hB.r8
  have h1 := hB.2.1
  have h2 := hB.2.2.1
  refine lv_iconst (v := nI 1) hx hb dX3_isScale_0 (by decide) ?_
  refine lv_istore_n (lv' := [(3, .int (nI 1)), (0, .ref (ad 0)), (1, .int (nI a)), (2, .int (nI b))]) hx hb dX3_isScale_1 rfl hl (by decide) rfl (fun ls hl => ?_)
  refine lv_iconst (v := nI 0) hx hb dX3_isScale_2 (by decide) ?_
  refine lv_istore (lv' := [(4, .int (nI 0)), (3, .int (nI 1)), (0, .ref (ad 0)), (1, .int (nI a)), (2, .int (nI b))]) hx hb dX3_isScale_3 hl (by decide) rfl (fun ls hl => ?_)
  refine zloop (head := 5) (nL := 10) (B 0) (fun k => [(0, .ref (ad 0)), (1, .int (nI a)), (2, .int (nI b)), (3, .int (zB (∀ y, y < k → bsc1 B a b y))), (4, .int (nI k))]) (fun k hv_k ih_5 ls hl => ?_) 0 (Nat.zero_le _) ((show nI 1 = zB (∀ y, y < 0 → bsc1 B a b y) from (zB_t (fun y hy => absurd hy (Nat.not_lt_zero _))).symm) ▸ (lv_sub hl [2, 3, 4, 1, 0] rfl))
  refine lv_iload hx hb dX3_isScale_5 (lv_at hl 4 rfl) ?_
  refine lv_aload_n hx hb dX3_isScale_7 rfl (lv_at hl 0 rfl) ?_
  refine va_get (D := g.1) (ci := 3) (v := .ref (ad 4)) (C := RX3) (T := TX3) (N := 30) hx hb hts in_X3 hown hK hP 0 rfl rfl 4 (by decide) (hts _ q1301) (fun _ h9 => h9) rfl dX3_isScale_8 ?_
  refine lv_iconst (v := nI 0) hx hb dX3_isScale_11 (by decide) ?_
  refine zald hx hb hK hP 1 0 rfl rfl (j := 0) (by omega) (by decide) dX3_isScale_12 ?_
  refine zti (show (nF B) 0 = nI (B 0) from rfl) ?_
  refine zc_ge (tgt := 180) hx hb (by omega) (by omega) dX3_isScale_13 (by decide) (fun c_13 => ?_) (fun c_13 => ?_)
  · refine lv_iload_n hx hb dX3_isScale_180 rfl (lv_at hl 3 rfl) ?_
    exact W.zret (v := zB (∀ y, y < k → bsc1 B a b y)) hx hb hr (zB_nar _) (fun t ht hW => ⟨_, rfl, (zB_c ⟨fun z y hy => z y (by omega), fun z y hy => z y (by omega)⟩), ht⟩) (fun _ h => absurd h List.not_mem_nil) dX3_isScale_181
  · have hk0 : k < B 0 := by omega
    have hkk := (hB.kd hk0).2
    have hkw := (hB.wl hk0).2
    have hkl := (hB.il hk0).2
    refine lv_aload_n hx hb dX3_isScale_16 rfl (lv_at hl 0 rfl) ?_
    refine va_get (D := g.1) (ci := 3) (v := .ref (ad 4)) (C := RX3) (T := TX3) (N := 30) hx hb hts in_X3 hown hK hP 0 rfl rfl 4 (by decide) (hts _ q1301) (fun _ h9 => h9) rfl dX3_isScale_17 ?_
    refine lv_iload hx hb dX3_isScale_20 (lv_at hl 4 rfl) ?_
    refine lv_iconst (v := nI 0) hx hb dX3_isScale_22 (by decide) ?_
    refine vp_callSi (W.runS (As := [.ref (ad 4), .int (nI k), .int (nI 0)]) (rest := []) ⟨hx, hb, hml, hown, hts⟩ (m_X3_lengthOf l g (ad 4) B k 0 (by omega) (by omega) (by first | assumption | omega | exact (hB.kd (by omega)).2)) (va_cwS 3 hts (lw_S q1574 q1575 q69 q1576) rfl rfl rfl hdS_X3_lengthOf ⟨Nat.le_of_ble_eq_true rfl, Nat.le_of_ble_eq_true rfl⟩) (zpreS hK hN (hP.sub [1] rfl)) rfl rfl hl.1 rfl (lv_room (Nat.le_of_ble_eq_true rfl)) dX3_isScale_23 ⟨Nat.le_of_ble_eq_true rfl, Nat.le_of_ble_eq_true rfl⟩) (fun r_23 hr_23 => ?_)
    subst hr_23
    refine lv_istore (lv' := [(5, .int (nI (bln B k 0))), (0, .ref (ad 0)), (1, .int (nI a)), (2, .int (nI b)), (3, .int (zB (∀ y, y < k → bsc1 B a b y))), (4, .int (nI k))]) hx hb dX3_isScale_26 hl (by decide) rfl (fun ls hl => ?_)
    refine lv_aload_n hx hb dX3_isScale_28 rfl (lv_at hl 1 rfl) ?_
    refine va_get (D := g.1) (ci := 3) (v := .ref (ad 4)) (C := RX3) (T := TX3) (N := 30) hx hb hts in_X3 hown hK hP 0 rfl rfl 4 (by decide) (hts _ q1301) (fun _ h9 => h9) rfl dX3_isScale_29 ?_
    refine lv_iload hx hb dX3_isScale_32 (lv_at hl 5 rfl) ?_
    refine lv_iconst (v := nI 1) hx hb dX3_isScale_34 (by decide) ?_
    refine vp_callSi (W.runS (As := [.ref (ad 4), .int (nI k), .int (nI 1)]) (rest := []) ⟨hx, hb, hml, hown, hts⟩ (m_X3_lengthOf l g (ad 4) B k 1 (by omega) (by omega) (by first | assumption | omega | exact (hB.kd (by omega)).2)) (va_cwS 3 hts (lw_S q1574 q1575 q69 q1576) rfl rfl rfl hdS_X3_lengthOf ⟨Nat.le_of_ble_eq_true rfl, Nat.le_of_ble_eq_true rfl⟩) (zpreS hK hN (hP.sub [1] rfl)) rfl rfl hl.1 rfl (lv_room (Nat.le_of_ble_eq_true rfl)) dX3_isScale_35 ⟨Nat.le_of_ble_eq_true rfl, Nat.le_of_ble_eq_true rfl⟩) (fun r_35 hr_35 => ?_)
    subst hr_35
    refine lv_istore (lv' := [(6, .int (nI (bln B k 1))), (5, .int (nI (bln B k 0))), (0, .ref (ad 0)), (1, .int (nI a)), (2, .int (nI b)), (3, .int (zB (∀ y, y < k → bsc1 B a b y))), (4, .int (nI k))]) hx hb dX3_isScale_38 hl (by decide) rfl (fun ls hl => ?_)
    refine lv_iconst (v := nI 0) hx hb dX3_isScale_40 (by decide) ?_
    refine lv_istore (lv' := [(7, .int (nI 0)), (6, .int (nI (bln B k 1))), (5, .int (nI (bln B k 0))), (0, .ref (ad 0)), (1, .int (nI a)), (2, .int (nI b)), (3, .int (zB (∀ y, y < k → bsc1 B a b y))), (4, .int (nI k))]) hx hb dX3_isScale_41 hl (by decide) rfl (fun ls hl => ?_)
    refine lv_iconst (v := nI 0) hx hb dX3_isScale_43 (by decide) ?_
    refine lv_istore (lv' := [(8, .int (nI 0)), (7, .int (nI 0)), (6, .int (nI (bln B k 1))), (5, .int (nI (bln B k 0))), (0, .ref (ad 0)), (1, .int (nI a)), (2, .int (nI b)), (3, .int (zB (∀ y, y < k → bsc1 B a b y))), (4, .int (nI k))]) hx hb dX3_isScale_44 hl (by decide) rfl (fun ls hl => ?_)
    refine lv_iconst (v := nI 0) hx hb dX3_isScale_46 (by decide) ?_
    refine lv_istore (lv' := [(9, .int (nI 0)), (8, .int (nI 0)), (7, .int (nI 0)), (6, .int (nI (bln B k 1))), (5, .int (nI (bln B k 0))), (0, .ref (ad 0)), (1, .int (nI a)), (2, .int (nI b)), (3, .int (zB (∀ y, y < k → bsc1 B a b y))), (4, .int (nI k))]) hx hb dX3_isScale_47 hl (by decide) rfl (fun ls hl => ?_)
    refine zloop (head := 49) (nL := 10) (bil B k) (fun i => [(0, .ref (ad 0)), (1, .int (nI a)), (2, .int (nI b)), (3, .int (zB (∀ y, y < k → bsc1 B a b y))), (4, .int (nI k)), (5, .int (nI (bln B k 0))), (6, .int (nI (bln B k 1))), (7, .int (nI (zsum (fun i => bln B (bia B k i) 0) i))), (8, .int (nI (zsum (fun i => bln B (bia B k i) 1) i))), (9, .int (nI i))]) (fun i hv_i ih_49 ls hl => ?_) 0 (Nat.zero_le _) (lv_sub hl [5, 6, 7, 8, 9, 4, 3, 2, 1, 0] rfl)
    refine lv_iload hx hb dX3_isScale_49 (lv_at hl 9 rfl) ?_
    refine lv_aload_n hx hb dX3_isScale_51 rfl (lv_at hl 0 rfl) ?_
    refine va_get (D := g.1) (ci := 3) (v := .ref (ad 4)) (C := RX3) (T := TX3) (N := 30) hx hb hts in_X3 hown hK hP 0 rfl rfl 4 (by decide) (hts _ q1301) (fun _ h9 => h9) rfl dX3_isScale_52 ?_
    refine lv_iload hx hb dX3_isScale_55 (lv_at hl 4 rfl) ?_
    refine vp_callSi (W.runS (As := [.ref (ad 4), .int (nI k)]) (rest := [.int (nI i)]) ⟨hx, hb, hml, hown, hts⟩ (m_X3_imageSize l g (ad 4) B k (by omega) (by first | assumption | omega | exact (hB.kd (by omega)).2)) (va_cwS 2 hts (lw_S q1539 q1540 q69 q1541) rfl rfl rfl hdS_X3_imageSize ⟨Nat.le_of_ble_eq_true rfl, Nat.le_of_ble_eq_true rfl⟩) (zpreS hK hN (hP.sub [1] rfl)) rfl rfl hl.1 rfl (lv_room (Nat.le_of_ble_eq_true rfl)) dX3_isScale_57 ⟨Nat.le_of_ble_eq_true rfl, Nat.le_of_ble_eq_true rfl⟩) (fun r_57 hr_57 => ?_)
    subst hr_57
    refine zc_ge (tgt := 117) hx hb (by omega) (by omega) dX3_isScale_60 (by decide) (fun c_60 => ?_) (fun c_60 => ?_)
    · obtain rfl : bil B k = i := by omega
      have m1 : bln B k 0 * a ≤ 18 * 9 := Nat.mul_le_mul (hB.ln hk0 (by decide)) ha
      have m2 : bln B k 1 * b ≤ 18 * 9 := Nat.mul_le_mul (hB.ln hk0 (by decide)) hb9
      have m3 : bln B k 1 * b * B 2 ≤ 18 * 9 * 9 := Nat.mul_le_mul m2 h2
      have m4 : bln B k 0 * b ≤ 18 * 9 := Nat.mul_le_mul (hB.ln hk0 (by decide)) hb9
      have m5 : bln B k 1 * a ≤ 18 * 9 := Nat.mul_le_mul (hB.ln hk0 (by decide)) ha
      have m6 : bln B k 1 * b * B 1 ≤ 18 * 9 * 3 := Nat.mul_le_mul m2 h1
      have s1 := hB.sum hk0 (w := 0) (by decide) (Nat.le_refl (bil B k))
      have s2 := hB.sum hk0 (w := 1) (by decide) (Nat.le_refl (bil B k))
      refine zjoin (ls := ls) (α := Int32) (fun v9 => v9 = zB (∀ y, y < (k + 1) → bsc1 B a b y)) (fun v9 => .int v9 :: []) 173 (fun v9 hv => ?_) (fun jn_117 => ?_)
      · subst hv
        refine lv_istore_n (lv' := [(3, .int (zB (∀ y, y < (k + 1) → bsc1 B a b y))), (0, .ref (ad 0)), (1, .int (nI a)), (2, .int (nI b)), (4, .int (nI k)), (5, .int (nI (bln B k 0))), (6, .int (nI (bln B k 1))), (7, .int (nI (zsum (fun i => bln B (bia B k i) 0) (bil B k)))), (8, .int (nI (zsum (fun i => bln B (bia B k i) 1) (bil B k)))), (9, .int (nI (bil B k)))]) hx hb dX3_isScale_173 rfl hl (by decide) rfl (fun ls hl => ?_)
        refine lv_iinc (v := nI (k + 1)) (lv' := [(4, .int (nI (k + 1))), (3, .int (zB (∀ y, y < (k + 1) → bsc1 B a b y))), (0, .ref (ad 0)), (1, .int (nI a)), (2, .int (nI b)), (5, .int (nI (bln B k 0))), (6, .int (nI (bln B k 1))), (7, .int (nI (zsum (fun i => bln B (bia B k i) 0) (bil B k)))), (8, .int (nI (zsum (fun i => bln B (bia B k i) 1) (bil B k)))), (9, .int (nI (bil B k)))]) hx hb dX3_isScale_174 hl (k := 4) rfl (nI_add k 1) (by decide) rfl (fun ls hl => ?_)
        refine lv_goto (tgt := 5) hx hb dX3_isScale_177 (by decide) ?_
        exact ih_5 (by omega) _ (lv_sub hl [2, 3, 4, 1, 0] rfl)
      · refine lv_iload_n hx hb dX3_isScale_117 rfl (lv_at hl 3 rfl) ?_
        refine zi_eqB (tgt := 172) hx hb dX3_isScale_118 (by decide) (fun c_118 => ?_) (fun c_118 => ?_)
        · refine lv_iconst (v := nI 0) hx hb dX3_isScale_172 (by decide) ?_
          exact jn_117 _ ((zB_f (fun z => c_118 (fun y hy => z y (by omega)))).symm)
        · refine lv_iload hx hb dX3_isScale_121 (lv_at hl 7 rfl) ?_
          refine lv_iload hx hb dX3_isScale_123 (lv_at hl 5 rfl) ?_
          refine lv_iload_n hx hb dX3_isScale_125 rfl (lv_at hl 1 rfl) ?_
          refine lv_imul hx hb dX3_isScale_126 ?_
          refine zti (pk_mul (bln B k 0) a) ?_
          refine lv_iload hx hb dX3_isScale_127 (lv_at hl 6 rfl) ?_
          refine lv_iload_n hx hb dX3_isScale_129 rfl (lv_at hl 2 rfl) ?_
          refine lv_imul hx hb dX3_isScale_130 ?_
          refine zti (pk_mul (bln B k 1) b) ?_
          refine lv_aload_n hx hb dX3_isScale_131 rfl (lv_at hl 0 rfl) ?_
          refine va_get (D := g.1) (ci := 3) (v := .ref (ad 4)) (C := RX3) (T := TX3) (N := 30) hx hb hts in_X3 hown hK hP 0 rfl rfl 4 (by decide) (hts _ q1301) (fun _ h9 => h9) rfl dX3_isScale_132 ?_
          refine lv_iconst (v := nI 2) hx hb dX3_isScale_135 (by decide) ?_
          refine zald hx hb hK hP 1 0 rfl rfl (j := 2) (by omega) (by decide) dX3_isScale_136 ?_
          refine zti (show (nF B) 2 = nI (B 2) from rfl) ?_
          refine lv_imul hx hb dX3_isScale_137 ?_
          refine zti (pk_mul ((bln B k 1) * b) (B 2)) ?_
          refine lv_iadd hx hb dX3_isScale_138 ?_
          refine zti (nI_add ((bln B k 0) * a) (((bln B k 1) * b) * (B 2))) ?_
          refine zc_ne (tgt := 172) hx hb (by omega) (by omega) dX3_isScale_139 (by decide) (fun c_139 => ?_) (fun c_139 => ?_)
          · refine lv_iconst (v := nI 0) hx hb dX3_isScale_172 (by decide) ?_
            exact jn_117 _ ((zB_f (fun z => c_139 (z k (by omega)).1)).symm)
          · refine lv_iload hx hb dX3_isScale_142 (lv_at hl 8 rfl) ?_
            refine lv_iload hx hb dX3_isScale_144 (lv_at hl 5 rfl) ?_
            refine lv_iload_n hx hb dX3_isScale_146 rfl (lv_at hl 2 rfl) ?_
            refine lv_imul hx hb dX3_isScale_147 ?_
            refine zti (pk_mul (bln B k 0) b) ?_
            refine lv_iload hx hb dX3_isScale_148 (lv_at hl 6 rfl) ?_
            refine lv_iload_n hx hb dX3_isScale_150 rfl (lv_at hl 1 rfl) ?_
            refine lv_imul hx hb dX3_isScale_151 ?_
            refine zti (pk_mul (bln B k 1) a) ?_
            refine lv_iadd hx hb dX3_isScale_152 ?_
            refine zti (nI_add ((bln B k 0) * b) ((bln B k 1) * a)) ?_
            refine lv_iload hx hb dX3_isScale_153 (lv_at hl 6 rfl) ?_
            refine lv_iload_n hx hb dX3_isScale_155 rfl (lv_at hl 2 rfl) ?_
            refine lv_imul hx hb dX3_isScale_156 ?_
            refine zti (pk_mul (bln B k 1) b) ?_
            refine lv_aload_n hx hb dX3_isScale_157 rfl (lv_at hl 0 rfl) ?_
            refine va_get (D := g.1) (ci := 3) (v := .ref (ad 4)) (C := RX3) (T := TX3) (N := 30) hx hb hts in_X3 hown hK hP 0 rfl rfl 4 (by decide) (hts _ q1301) (fun _ h9 => h9) rfl dX3_isScale_158 ?_
            refine lv_iconst (v := nI 1) hx hb dX3_isScale_161 (by decide) ?_
            refine zald hx hb hK hP 1 0 rfl rfl (j := 1) (by omega) (by decide) dX3_isScale_162 ?_
            refine zti (show (nF B) 1 = nI (B 1) from rfl) ?_
            refine lv_imul hx hb dX3_isScale_163 ?_
            refine zti (pk_mul ((bln B k 1) * b) (B 1)) ?_
            refine lv_iadd hx hb dX3_isScale_164 ?_
            refine zti (nI_add ((bln B k 0) * b + (bln B k 1) * a) (((bln B k 1) * b) * (B 1))) ?_
            refine zc_ne (tgt := 172) hx hb (by omega) (by omega) dX3_isScale_165 (by decide) (fun c_165 => ?_) (fun c_165 => ?_)
            · refine lv_iconst (v := nI 0) hx hb dX3_isScale_172 (by decide) ?_
              exact jn_117 _ ((zB_f (fun z => c_165 (z k (by omega)).2)).symm)
            · refine lv_iconst (v := nI 1) hx hb dX3_isScale_168 (by decide) ?_
              refine lv_goto (tgt := 173) hx hb dX3_isScale_169 (by decide) ?_
              exact jn_117 _ ((zB_t (lt_s c_118 ⟨c_139, c_165⟩)).symm)
    · have hia := hB.ia hk0 (show i < bil B k by omega)
      have hiak := (hB.kd hia).2
      refine lv_iload hx hb dX3_isScale_63 (lv_at hl 7 rfl) ?_
      refine lv_aload_n hx hb dX3_isScale_65 rfl (lv_at hl 0 rfl) ?_
      refine va_get (D := g.1) (ci := 3) (v := .ref (ad 4)) (C := RX3) (T := TX3) (N := 30) hx hb hts in_X3 hown hK hP 0 rfl rfl 4 (by decide) (hts _ q1301) (fun _ h9 => h9) rfl dX3_isScale_66 ?_
      refine lv_aload_n hx hb dX3_isScale_69 rfl (lv_at hl 0 rfl) ?_
      refine va_get (D := g.1) (ci := 3) (v := .ref (ad 4)) (C := RX3) (T := TX3) (N := 30) hx hb hts in_X3 hown hK hP 0 rfl rfl 4 (by decide) (hts _ q1301) (fun _ h9 => h9) rfl dX3_isScale_70 ?_
      refine lv_iload hx hb dX3_isScale_73 (lv_at hl 4 rfl) ?_
      refine lv_iload hx hb dX3_isScale_75 (lv_at hl 9 rfl) ?_
      refine vp_callSi (W.runS (As := [.ref (ad 4), .int (nI k), .int (nI i)]) (rest := [.ref (ad 4), .int (nI (zsum (fun i => bln B (bia B k i) 0) i))]) ⟨hx, hb, hml, hown, hts⟩ (m_X3_imageAt l g (ad 4) B k i (by omega) (by first | assumption | omega | exact (hB.kd (by omega)).2) (by first | assumption | omega | exact (hB.wl (by omega)).2) (by first | assumption | omega)) (va_cwS 3 hts (lw_S q1542 q1543 q69 q1544) rfl rfl rfl hdS_X3_imageAt ⟨Nat.le_of_ble_eq_true rfl, Nat.le_of_ble_eq_true rfl⟩) (zpreS hK hN (hP.sub [1] rfl)) rfl rfl hl.1 rfl (lv_room (Nat.le_of_ble_eq_true rfl)) dX3_isScale_77 ⟨Nat.le_of_ble_eq_true rfl, Nat.le_of_ble_eq_true rfl⟩) (fun r_77 hr_77 => ?_)
      subst hr_77
      refine lv_iconst (v := nI 0) hx hb dX3_isScale_80 (by decide) ?_
      refine vp_callSi (W.runS (As := [.ref (ad 4), .int (nI (bia B k i)), .int (nI 0)]) (rest := [.int (nI (zsum (fun i => bln B (bia B k i) 0) i))]) ⟨hx, hb, hml, hown, hts⟩ (m_X3_lengthOf l g (ad 4) B (bia B k i) 0 (by omega) (by omega) (by first | assumption | omega | exact (hB.kd (by omega)).2)) (va_cwS 3 hts (lw_S q1574 q1575 q69 q1576) rfl rfl rfl hdS_X3_lengthOf ⟨Nat.le_of_ble_eq_true rfl, Nat.le_of_ble_eq_true rfl⟩) (zpreS hK hN (hP.sub [1] rfl)) rfl rfl hl.1 rfl (lv_room (Nat.le_of_ble_eq_true rfl)) dX3_isScale_81 ⟨Nat.le_of_ble_eq_true rfl, Nat.le_of_ble_eq_true rfl⟩) (fun r_81 hr_81 => ?_)
      subst hr_81
      refine lv_iadd hx hb dX3_isScale_84 ?_
      refine zti (nI_add (zsum (fun i => bln B (bia B k i) 0) i) (bln B (bia B k i) 0)) ?_
      refine lv_istore (lv' := [(7, .int (nI (zsum (fun i => bln B (bia B k i) 0) i + bln B (bia B k i) 0))), (0, .ref (ad 0)), (1, .int (nI a)), (2, .int (nI b)), (3, .int (zB (∀ y, y < k → bsc1 B a b y))), (4, .int (nI k)), (5, .int (nI (bln B k 0))), (6, .int (nI (bln B k 1))), (8, .int (nI (zsum (fun i => bln B (bia B k i) 1) i))), (9, .int (nI i))]) hx hb dX3_isScale_85 hl (by decide) rfl (fun ls hl => ?_)
      refine lv_iload hx hb dX3_isScale_87 (lv_at hl 8 rfl) ?_
      refine lv_aload_n hx hb dX3_isScale_89 rfl (lv_at hl 1 rfl) ?_
      refine va_get (D := g.1) (ci := 3) (v := .ref (ad 4)) (C := RX3) (T := TX3) (N := 30) hx hb hts in_X3 hown hK hP 0 rfl rfl 4 (by decide) (hts _ q1301) (fun _ h9 => h9) rfl dX3_isScale_90 ?_
      refine lv_aload_n hx hb dX3_isScale_93 rfl (lv_at hl 1 rfl) ?_
      refine va_get (D := g.1) (ci := 3) (v := .ref (ad 4)) (C := RX3) (T := TX3) (N := 30) hx hb hts in_X3 hown hK hP 0 rfl rfl 4 (by decide) (hts _ q1301) (fun _ h9 => h9) rfl dX3_isScale_94 ?_
      refine lv_iload hx hb dX3_isScale_97 (lv_at hl 5 rfl) ?_
      refine lv_iload hx hb dX3_isScale_99 (lv_at hl 9 rfl) ?_
      refine vp_callSi (W.runS (As := [.ref (ad 4), .int (nI k), .int (nI i)]) (rest := [.ref (ad 4), .int (nI (zsum (fun i => bln B (bia B k i) 1) i))]) ⟨hx, hb, hml, hown, hts⟩ (m_X3_imageAt l g (ad 4) B k i (by omega) (by first | assumption | omega | exact (hB.kd (by omega)).2) (by first | assumption | omega | exact (hB.wl (by omega)).2) (by first | assumption | omega)) (va_cwS 3 hts (lw_S q1542 q1543 q69 q1544) rfl rfl rfl hdS_X3_imageAt ⟨Nat.le_of_ble_eq_true rfl, Nat.le_of_ble_eq_true rfl⟩) (zpreS hK hN (hP.sub [1] rfl)) rfl rfl hl.1 rfl (lv_room (Nat.le_of_ble_eq_true rfl)) dX3_isScale_101 ⟨Nat.le_of_ble_eq_true rfl, Nat.le_of_ble_eq_true rfl⟩) (fun r_101 hr_101 => ?_)
      subst hr_101
      refine lv_iconst (v := nI 1) hx hb dX3_isScale_104 (by decide) ?_
      refine vp_callSi (W.runS (As := [.ref (ad 4), .int (nI (bia B k i)), .int (nI 1)]) (rest := [.int (nI (zsum (fun i => bln B (bia B k i) 1) i))]) ⟨hx, hb, hml, hown, hts⟩ (m_X3_lengthOf l g (ad 4) B (bia B k i) 1 (by omega) (by omega) (by first | assumption | omega | exact (hB.kd (by omega)).2)) (va_cwS 3 hts (lw_S q1574 q1575 q69 q1576) rfl rfl rfl hdS_X3_lengthOf ⟨Nat.le_of_ble_eq_true rfl, Nat.le_of_ble_eq_true rfl⟩) (zpreS hK hN (hP.sub [1] rfl)) rfl rfl hl.1 rfl (lv_room (Nat.le_of_ble_eq_true rfl)) dX3_isScale_105 ⟨Nat.le_of_ble_eq_true rfl, Nat.le_of_ble_eq_true rfl⟩) (fun r_105 hr_105 => ?_)
      subst hr_105
      refine lv_iadd hx hb dX3_isScale_108 ?_
      refine zti (nI_add (zsum (fun i => bln B (bia B k i) 1) i) (bln B (bia B k i) 1)) ?_
      refine lv_istore (lv' := [(8, .int (nI (zsum (fun i => bln B (bia B k i) 1) i + bln B (bia B k i) 1))), (7, .int (nI (zsum (fun i => bln B (bia B k i) 0) i + bln B (bia B k i) 0))), (0, .ref (ad 0)), (1, .int (nI a)), (2, .int (nI b)), (3, .int (zB (∀ y, y < k → bsc1 B a b y))), (4, .int (nI k)), (5, .int (nI (bln B k 0))), (6, .int (nI (bln B k 1))), (9, .int (nI i))]) hx hb dX3_isScale_109 hl (by decide) rfl (fun ls hl => ?_)
      refine lv_iinc (v := nI (i + 1)) (lv' := [(9, .int (nI (i + 1))), (8, .int (nI (zsum (fun i => bln B (bia B k i) 1) i + bln B (bia B k i) 1))), (7, .int (nI (zsum (fun i => bln B (bia B k i) 0) i + bln B (bia B k i) 0))), (0, .ref (ad 0)), (1, .int (nI a)), (2, .int (nI b)), (3, .int (zB (∀ y, y < k → bsc1 B a b y))), (4, .int (nI k)), (5, .int (nI (bln B k 0))), (6, .int (nI (bln B k 1)))]) hx hb dX3_isScale_111 hl (k := 9) rfl (nI_add i 1) (by decide) rfl (fun ls hl => ?_)
      refine lv_goto (tgt := 49) hx hb dX3_isScale_114 (by decide) ?_
      exact ih_49 (by omega) _ (lv_sub hl [3, 4, 5, 6, 7, 8, 9, 2, 1, 0] rfl)

set_option maxHeartbeats 4000000 in
set_option maxRecDepth 100000 in
theorem m_X3_scale (l : Launch) (g : zG) (ad : Nat → Nat) (fi : Nat → Int32) (B : Nat → Nat) (hB : bOK B) : Met l yX3_scale (ws_ yX3_scale cX3_scale 3 (some .int)) ({ frames := 3, cells := 0, slots := 0, locals := 74 }) (zPc g [.ref (ad 0)] (fun H => va_P g.1 zCL [(ad 0, .inr (3, mO ad fi)), (ad 4, .inl (g.2 0, 44, .inl (nF B)))] H)) (vp_Si (fun z : Int32 => z = bscl B)) 0 0 (fun _ => False) := by
  refine Met.ofW (cc := cX3_scale) (maxL := 3) (ret := (some .int)) (by decide) rfl ?_
  intro p e s m args below meth c s₁ B0 hml hv
  obtain ⟨rfl, ⟨hK, hN⟩, hP⟩ := hv
  have hx := B0.exec
  have hb := B0.bytes
  have hr := B0.returns
  have hts := atoms_spec (ws := ws_ yX3_scale cX3_scale 3 (some .int)) B0.pre
  have hts : ∀ w ∈ lw_all, w.before _ s = true := fun w h => hts w (List.mem_cons_of_mem _ h)
  have hown : s.vm.findClass RX3 = some m.cls := findClass_of_methodNamed B0.named
  have hlocks := B0.notSynchronized
  have hl := lv_entry ([.ref (ad 0)]) (n := 3) (Nat.le_of_ble_eq_true rfl)
  rw [lg_entry_eq]
  generalize (lg_sl ([.ref (ad 0)]) ++ List.replicate (3 - (lg_sl ([.ref (ad 0)])).length) Slot.unset).toArray = ls at hl ⊢
  have hl : lv_has ls 3 [(0, .ref (ad 0))] := hl
  have h0 : B 0 ≤ 4 := hB.n4
  have h3 : B 3 ≤ 8 := hB.r8
  refine lv_ldc hx hb hown (hts _ q1433) dX3_scale_0 ?_
  refine lv_istore_n (lv' := [(1, .int (-1000000)), (0, .ref (ad 0))]) hx hb dX3_scale_2 rfl hl (by decide) rfl (fun ls hl => ?_)
  refine lv_bipush (v := nI 99) hx hb dX3_scale_3 (by decide) ?_
  refine lv_istore_n (lv' := [(2, .int (nI 99)), (1, .int (-1000000)), (0, .ref (ad 0))]) hx hb dX3_scale_5 rfl hl (by decide) rfl (fun ls hl => ?_)
  refine zloop (head := 6) (nL := 3) (100) (fun k => [(0, .ref (ad 0)), (1, .int (zfst (fun k => bscale B (k / 10) (k % 10)) (-1000000) (100 - k) k)), (2, .int (zdn (100 - k)))]) (fun k hv_k ih_6 ls hl => ?_) 0 (Nat.zero_le _) ((by rw [show zdn (100 - 0) = nI 99 from zdn_s 99]; exact lv_sub hl [2, 1, 0] rfl))
  rcases Nat.lt_or_ge k (100) with hq_6 | hq_6
  · obtain ⟨j, hj⟩ : ∃ j, 100 - k = j + 1 := ⟨100 - k - 1, by omega⟩
    have hl : lv_has ls 3 [(0, .ref (ad 0)), (1, .int (zfst (fun k => bscale B (k / 10) (k % 10)) (-1000000) (j + 1) k)), (2, .int (zdn (j + 1)))] := by rw [hj] at hl; exact hl
    rw [zdn_s] at hl
    refine lv_iload_n hx hb dX3_scale_6 rfl (lv_at hl 2 rfl) ?_
    refine zi_ltN (tgt := 37) hx hb (by omega) dX3_scale_7 (by decide) ?_
    refine zjoin (ls := ls) (α := Int32) (fun v9 => v9 = zfst (fun k => bscale B (k / 10) (k % 10)) (-1000000) j (k + 1)) (fun v9 => .int v9 :: []) 30 (fun v9 hv => ?_) (fun jn_10 => ?_)
    · subst hv
      refine lv_istore_n (lv' := [(1, .int (zfst (fun k => bscale B (k / 10) (k % 10)) (-1000000) j (k + 1))), (0, .ref (ad 0)), (2, .int (nI j))]) hx hb dX3_scale_30 rfl hl (by decide) rfl (fun ls hl => ?_)
      refine lv_iinc (v := zdn j) (lv' := [(2, .int (zdn j)), (1, .int (zfst (fun k => bscale B (k / 10) (k % 10)) (-1000000) j (k + 1))), (0, .ref (ad 0))]) hx hb dX3_scale_31 hl (k := 2) rfl (zdn_m _) (by decide) rfl (fun ls hl => ?_)
      refine lv_goto (tgt := 6) hx hb dX3_scale_34 (by decide) ?_
      exact ih_6 (by omega) _ (by rw [show 100 - (k + 1) = j by omega]; exact lv_sub hl [2, 1, 0] rfl)
    · refine lv_aload_n hx hb dX3_scale_10 rfl (lv_at hl 0 rfl) ?_
      refine lv_iload_n hx hb dX3_scale_11 rfl (lv_at hl 2 rfl) ?_
      refine lv_bipush (v := nI 10) hx hb dX3_scale_12 (by decide) ?_
      refine lv_idiv hx hb dX3_scale_14 (by decide) ?_
      refine zti (pk_div (a := j) (d := 10) (by omega) (by omega) (by omega)) ?_
      refine lv_iload_n hx hb dX3_scale_15 rfl (lv_at hl 2 rfl) ?_
      refine lv_bipush (v := nI 10) hx hb dX3_scale_16 (by decide) ?_
      refine lv_irem hx hb dX3_scale_18 (by decide) ?_
      refine zti (pk_rem (a := j) (d := 10) (by omega) (by omega) (by omega)) ?_
      refine vp_callSi (W.runV (As := [.int (nI (j / 10)), .int (nI (j % 10))]) (rest := []) ⟨hx, hb, hml, hown, hts⟩ (m_X3_isScale l g ad fi B hB (j / 10) (j % 10) (by omega) (by omega)) (cwV 2 hts (lw_V q1610 q1612 qs49 q69 q1613) rfl rfl rfl hdV_X3_isScale ⟨Nat.le_of_ble_eq_true rfl, Nat.le_of_ble_eq_true rfl⟩) (zpreV hK hN (va_recv hK hP (ci := 3) (q0 := 0) rfl rfl) hP) rfl rfl hl.1 rfl (lv_room (Nat.le_of_ble_eq_true rfl)) dX3_scale_19 ⟨Nat.le_of_ble_eq_true rfl, Nat.le_of_ble_eq_true rfl⟩) (fun r_19 hr_19 => ?_)
      subst hr_19
      refine zi_eqB (tgt := 29) hx hb dX3_scale_22 (by decide) (fun c_22 => ?_) (fun c_22 => ?_)
      · refine lv_iload_n hx hb dX3_scale_29 rfl (lv_at hl 1 rfl) ?_
        exact jn_10 _ ((zif_f c_22).symm)
      · refine lv_iload_n hx hb dX3_scale_25 rfl (lv_at hl 2 rfl) ?_
        refine lv_goto (tgt := 30) hx hb dX3_scale_26 (by decide) ?_
        exact jn_10 _ ((zif_t c_22).symm)
  · obtain rfl : 100 = k := by omega
    have hl : lv_has ls 3 [(0, .ref (ad 0)), (1, .int (zfst (fun k => bscale B (k / 10) (k % 10)) (-1000000) 0 100)), (2, .int (zdn 0))] := by rw [Nat.sub_self] at hl; exact hl
    refine lv_iload_n hx hb dX3_scale_6 rfl (lv_at hl 2 rfl) ?_
    refine lv_if_lt (tgt := 37) hx hb dX3_scale_7 (by decide) (fun c_7 => ?_) (fun c_7 => ?_)
    · refine lv_iload_n hx hb dX3_scale_37 rfl (lv_at hl 1 rfl) ?_
      exact W.iret (v := zfst (fun k => bscale B (k / 10) (k % 10)) (-1000000) 0 100) hx hb hr (fun t ht hW => ⟨_, rfl, rfl, ht⟩) (fun _ h => absurd h List.not_mem_nil) dX3_scale_38
    · exact absurd zdn_0 c_7
