/-! the twin: the pairs of a row -/
set_option maxHeartbeats 4000000 in
set_option maxRecDepth 100000 in
theorem m_X3_pairsOf (l : Launch) (g : zG) (rw : Nat) (B : Nat → Nat) (hB : bOK B) : Met l yX3_pairsOf (ws_ yX3_pairsOf cX3_pairsOf 6 (some .int)) ({ frames := 2, cells := 0, slots := 0, locals := 45 }) (zPc g [.ref rw] (fun H => va_P g.1 zCL [(rw, .inl (g.2 0, 44, .inl (nF B)))] H)) (vp_Si (fun z : Int32 => z = nI (bpairs B))) 0 0 (fun _ => False) := by
  refine Met.ofW (cc := cX3_pairsOf) (maxL := 6) (ret := (some .int)) (by decide) rfl ?_
  intro p e s m args below meth c s₁ B0 hml hv
  obtain ⟨rfl, ⟨hK, hN⟩, hP⟩ := hv
  have hx := B0.exec
  have hb := B0.bytes
  have hr := B0.returns
  have hts := atoms_spec (ws := ws_ yX3_pairsOf cX3_pairsOf 6 (some .int)) B0.pre
  have hts : ∀ w ∈ lw_all, w.before _ s = true := fun w h => hts w (List.mem_cons_of_mem _ h)
  have hown : s.vm.findClass RX3 = some m.cls := findClass_of_methodNamed B0.named
  have hlocks := B0.notSynchronized
  have hl := lv_entry ([.ref rw]) (n := 6) (Nat.le_of_ble_eq_true rfl)
  rw [lg_entry_eq]
  generalize (lg_sl ([.ref rw]) ++ List.replicate (6 - (lg_sl ([.ref rw])).length) Slot.unset).toArray = ls at hl ⊢
  have hl : lv_has ls 6 [(0, .ref rw)] := hl
  have h0 : B 0 ≤ 4 := hB.n4
  have h3 : B 3 ≤ 8 := hB.r8
  refine lv_iconst (v := nI 0) hx hb dX3_pairsOf_0 (by decide) ?_
  refine lv_istore_n (lv' := [(1, .int (nI 0)), (0, .ref rw)]) hx hb dX3_pairsOf_1 rfl hl (by decide) rfl (fun ls hl => ?_)
  refine lv_iconst (v := nI 0) hx hb dX3_pairsOf_2 (by decide) ?_
  refine lv_istore_n (lv' := [(2, .int (nI 0)), (1, .int (nI 0)), (0, .ref rw)]) hx hb dX3_pairsOf_3 rfl hl (by decide) rfl (fun ls hl => ?_)
  refine lv_iconst (v := nI 0) hx hb dX3_pairsOf_4 (by decide) ?_
  refine lv_istore_n (lv' := [(3, .int (nI 0)), (2, .int (nI 0)), (1, .int (nI 0)), (0, .ref rw)]) hx hb dX3_pairsOf_5 rfl hl (by decide) rfl (fun ls hl => ?_)
  refine zloop (head := 6) (nL := 6) (B 3) (fun k => [(0, .ref rw), (1, .int (nI (bl0 B k))), (2, .int (nI (bp0 B k))), (3, .int (nI k))]) (fun k hv_k ih_6 ls hl => ?_) 0 (Nat.zero_le _) (lv_sub hl [3, 2, 1, 0] rfl)
  refine lv_iload_n hx hb dX3_pairsOf_6 rfl (lv_at hl 3 rfl) ?_
  refine lv_aload_n hx hb dX3_pairsOf_7 rfl (lv_at hl 0 rfl) ?_
  refine lv_iconst (v := nI 3) hx hb dX3_pairsOf_8 (by decide) ?_
  refine zald hx hb hK hP 0 0 rfl rfl (j := 3) (by omega) (by decide) dX3_pairsOf_9 ?_
  refine zti (show (nF B) 3 = nI (B 3) from rfl) ?_
  refine zc_ge (tgt := 57) hx hb (by omega) (by omega) dX3_pairsOf_10 (by decide) (fun c_10 => ?_) (fun c_10 => ?_)
  · obtain rfl : B 3 = k := by omega
    refine lv_iconst (v := nI 0) hx hb dX3_pairsOf_57 (by decide) ?_
    refine lv_istore_n (lv' := [(3, .int (nI 0)), (0, .ref rw), (1, .int (nI (bl0 B (B 3)))), (2, .int (nI (bp0 B (B 3))))]) hx hb dX3_pairsOf_58 rfl hl (by decide) rfl (fun ls hl => ?_)
    refine zloop (head := 59) (nL := 6) (21) (fun k => [(0, .ref rw), (1, .int (nI ((biter B k).1))), (2, .int (nI ((biter B k).2))), (3, .int (nI k))]) (fun k hv_k ih_59 ls hl => ?_) 0 (Nat.zero_le _) (lv_sub hl [1, 2, 3, 0] rfl)
    have hit := hB.it k
    refine lv_iload_n hx hb dX3_pairsOf_59 rfl (lv_at hl 3 rfl) ?_
    refine lv_bipush (v := nI 21) hx hb dX3_pairsOf_60 (by decide) ?_
    refine zc_ge (tgt := 229) hx hb (by omega) (by omega) dX3_pairsOf_62 (by decide) (fun c_62 => ?_) (fun c_62 => ?_)
    · refine lv_iload_n hx hb dX3_pairsOf_229 rfl (lv_at hl 2 rfl) ?_
      exact W.iret (v := nI ((biter B k).2)) hx hb hr (fun t ht hW => ⟨_, rfl, (by rw [show k = 21 by omega]; rfl), ht⟩) (fun _ h => absurd h List.not_mem_nil) dX3_pairsOf_230
    · refine lv_iconst (v := nI 0) hx hb dX3_pairsOf_65 (by decide) ?_
      refine lv_istore (lv' := [(4, .int (nI 0)), (0, .ref rw), (1, .int (nI ((biter B k).1))), (2, .int (nI ((biter B k).2))), (3, .int (nI k))]) hx hb dX3_pairsOf_66 hl (by decide) rfl (fun ls hl => ?_)
      refine zloop (head := 68) (nL := 6) (B 0) (fun x => [(0, .ref rw), (1, .int (nI ((bxs B (biter B k) x).1))), (2, .int (nI ((bxs B (biter B k) x).2))), (3, .int (nI k)), (4, .int (nI x))]) (fun x hv_x ih_68 ls hl => ?_) 0 (Nat.zero_le _) (lv_sub hl [1, 2, 3, 4, 0] rfl)
      have hxs := hB.xs hit.1 hit.2 hv_x
      refine lv_iload hx hb dX3_pairsOf_68 (lv_at hl 4 rfl) ?_
      refine lv_aload_n hx hb dX3_pairsOf_70 rfl (lv_at hl 0 rfl) ?_
      refine lv_iconst (v := nI 0) hx hb dX3_pairsOf_71 (by decide) ?_
      refine zald hx hb hK hP 0 0 rfl rfl (j := 0) (by omega) (by decide) dX3_pairsOf_72 ?_
      refine zti (show (nF B) 0 = nI (B 0) from rfl) ?_
      refine zc_ge (tgt := 159) hx hb (by omega) (by omega) dX3_pairsOf_73 (by decide) (fun c_73 => ?_) (fun c_73 => ?_)
      · obtain rfl : B 0 = x := by omega
        refine lv_iconst (v := nI 0) hx hb dX3_pairsOf_159 (by decide) ?_
        refine lv_istore (lv' := [(4, .int (nI 0)), (0, .ref rw), (1, .int (nI ((bxs B (biter B k) (B 0)).1))), (2, .int (nI ((bxs B (biter B k) (B 0)).2))), (3, .int (nI k))]) hx hb dX3_pairsOf_160 hl (by decide) rfl (fun ls hl => ?_)
        refine zloop (head := 162) (nL := 6) (16) (fun j => [(0, .ref rw), (1, .int (nI ((bxs B (biter B k) (B 0)).1))), (2, .int (nI (bps B (bxs B (biter B k) (B 0)).2 j))), (3, .int (nI k)), (4, .int (nI j))]) (fun j hv_j ih_162 ls hl => ?_) 0 (Nat.zero_le _) (lv_sub hl [1, 2, 3, 4, 0] rfl)
        have hps := hB.ps hxs.2 (n := j)
        have hpl := hps.lt h0
        refine lv_iload hx hb dX3_pairsOf_162 (lv_at hl 4 rfl) ?_
        refine lv_bipush (v := nI 16) hx hb dX3_pairsOf_164 (by decide) ?_
        refine zc_ge (tgt := 223) hx hb (by omega) (by omega) dX3_pairsOf_166 (by decide) (fun c_166 => ?_) (fun c_166 => ?_)
        · obtain rfl : 16 = j := by omega
          refine lv_iinc (v := nI (k + 1)) (lv' := [(3, .int (nI (k + 1))), (0, .ref rw), (1, .int (nI ((bxs B (biter B k) (B 0)).1))), (2, .int (nI (bps B (bxs B (biter B k) (B 0)).2 16))), (4, .int (nI 16))]) hx hb dX3_pairsOf_223 hl (k := 3) rfl (nI_add k 1) (by decide) rfl (fun ls hl => ?_)
          refine lv_goto (tgt := 59) hx hb dX3_pairsOf_226 (by decide) ?_
          exact ih_59 (by omega) _ (lv_sub hl [1, 2, 3, 0] rfl)
        · refine lv_iload_n hx hb dX3_pairsOf_169 rfl (lv_at hl 2 rfl) ?_
          refine lv_iload hx hb dX3_pairsOf_170 (lv_at hl 4 rfl) ?_
          refine vp_callSi (W.runS (As := [.int (nI (bps B (bxs B (biter B k) (B 0)).2 j)), .int (nI j)]) (rest := []) ⟨hx, hb, hml, hown, hts⟩ (m_X3_has l g (nI (bps B (bxs B (biter B k) (B 0)).2 j)) (nI j)) (va_cwS 2 hts (lw_S q1617 q1618 q69 q1619) rfl rfl rfl hdS_X3_has ⟨Nat.le_of_ble_eq_true rfl, Nat.le_of_ble_eq_true rfl⟩) (zpreS hK hN trivial) rfl rfl hl.1 rfl (lv_room (Nat.le_of_ble_eq_true rfl)) dX3_pairsOf_172 ⟨Nat.le_of_ble_eq_true rfl, Nat.le_of_ble_eq_true rfl⟩) (fun r_172 hr_172 => ?_)
          subst hr_172
          refine zti (zB_c (zhas_nI (n := bps B (bxs B (biter B k) (B 0)).2 j) (k := j) (by omega) (by omega))) ?_
          refine zi_eqB (tgt := 217) hx hb dX3_pairsOf_175 (by decide) (fun c_175 => ?_) (fun c_175 => ?_)
          · refine lv_iinc (v := nI (j + 1)) (lv' := [(4, .int (nI (j + 1))), (0, .ref rw), (1, .int (nI ((bxs B (biter B k) (B 0)).1))), (2, .int (nI (bps B (bxs B (biter B k) (B 0)).2 j))), (3, .int (nI k))]) hx hb dX3_pairsOf_217 hl (k := 4) rfl (nI_add j 1) (by decide) rfl (fun ls hl => ?_)
            refine lv_goto (tgt := 162) hx hb dX3_pairsOf_220 (by decide) ?_
            exact ih_162 (by omega) _ (by rw [show bps B (bxs B (biter B k) (B 0)).2 (j + 1) = _ from zif_f c_175]; exact lv_sub hl [1, 2, 3, 4, 0] rfl)
          · have hpj := hps j c_175
            have hjl := hB.il hpj.1
            have hjw := (hB.wl hpj.1).2
            have hjm := hB.il hpj.2
            have hjn := (hB.wl hpj.2).2
            have hj1 := hB.ia hpj.1 (show bil B (j / 4) - 1 < bil B (j / 4) by omega)
            have hj2 := hB.ia hpj.2 (show 0 < bil B (j % 4) by omega)
            refine lv_aload_n hx hb dX3_pairsOf_178 rfl (lv_at hl 0 rfl) ?_
            refine lv_iload hx hb dX3_pairsOf_179 (lv_at hl 4 rfl) ?_
            refine lv_iconst (v := nI 4) hx hb dX3_pairsOf_181 (by decide) ?_
            refine lv_idiv hx hb dX3_pairsOf_182 (by decide) ?_
            refine zti (pk_div (a := j) (d := 4) (by omega) (by omega) (by omega)) ?_
            refine lv_aload_n hx hb dX3_pairsOf_183 rfl (lv_at hl 0 rfl) ?_
            refine lv_iload hx hb dX3_pairsOf_184 (lv_at hl 4 rfl) ?_
            refine lv_iconst (v := nI 4) hx hb dX3_pairsOf_186 (by decide) ?_
            refine lv_idiv hx hb dX3_pairsOf_187 (by decide) ?_
            refine zti (pk_div (a := j) (d := 4) (by omega) (by omega) (by omega)) ?_
            refine vp_callSi (W.runS (As := [.ref rw, .int (nI (j / 4))]) (rest := [.int (nI (j / 4)), .ref rw]) ⟨hx, hb, hml, hown, hts⟩ (m_X3_imageSize l g rw B (j / 4) (by omega) (by first | assumption | omega | exact (hB.kd (by omega)).2)) (va_cwS 2 hts (lw_S q1539 q1540 q69 q1541) rfl rfl rfl hdS_X3_imageSize ⟨Nat.le_of_ble_eq_true rfl, Nat.le_of_ble_eq_true rfl⟩) (zpreS hK hN hP) rfl rfl hl.1 rfl (lv_room (Nat.le_of_ble_eq_true rfl)) dX3_pairsOf_188 ⟨Nat.le_of_ble_eq_true rfl, Nat.le_of_ble_eq_true rfl⟩) (fun r_188 hr_188 => ?_)
            subst hr_188
            refine lv_iconst (v := nI 1) hx hb dX3_pairsOf_191 (by decide) ?_
            refine lv_isub hx hb dX3_pairsOf_192 ?_
            refine zti (pk_sub (a := bil B (j / 4)) (b := 1) (by omega)) ?_
            refine vp_callSi (W.runS (As := [.ref rw, .int (nI (j / 4)), .int (nI (bil B (j / 4) - 1))]) (rest := []) ⟨hx, hb, hml, hown, hts⟩ (m_X3_imageAt l g rw B (j / 4) (bil B (j / 4) - 1) (by omega) (by first | assumption | omega | exact (hB.kd (by omega)).2) (by first | assumption | omega | exact (hB.wl (by omega)).2) (by first | assumption | omega)) (va_cwS 3 hts (lw_S q1542 q1543 q69 q1544) rfl rfl rfl hdS_X3_imageAt ⟨Nat.le_of_ble_eq_true rfl, Nat.le_of_ble_eq_true rfl⟩) (zpreS hK hN hP) rfl rfl hl.1 rfl (lv_room (Nat.le_of_ble_eq_true rfl)) dX3_pairsOf_193 ⟨Nat.le_of_ble_eq_true rfl, Nat.le_of_ble_eq_true rfl⟩) (fun r_193 hr_193 => ?_)
            subst hr_193
            refine lv_istore (lv' := [(5, .int (nI (bia B (j / 4) (bil B (j / 4) - 1)))), (0, .ref rw), (1, .int (nI ((bxs B (biter B k) (B 0)).1))), (2, .int (nI (bps B (bxs B (biter B k) (B 0)).2 j))), (3, .int (nI k)), (4, .int (nI j))]) hx hb dX3_pairsOf_196 hl (by decide) rfl (fun ls hl => ?_)
            refine lv_iload_n hx hb dX3_pairsOf_198 rfl (lv_at hl 3 rfl) ?_
            refine lv_iconst (v := nI 1) hx hb dX3_pairsOf_199 (by decide) ?_
            refine lv_iconst (v := nI 4) hx hb dX3_pairsOf_200 (by decide) ?_
            refine lv_iload hx hb dX3_pairsOf_201 (lv_at hl 0 rfl) ?_
            refine lv_imul hx hb dX3_pairsOf_203 ?_
            refine zti (pk_mul 4 (bia B (j / 4) (bil B (j / 4) - 1))) ?_
            refine lv_aload_n hx hb dX3_pairsOf_204 rfl (lv_at hl 1 rfl) ?_
            refine lv_iload hx hb dX3_pairsOf_205 (lv_at hl 5 rfl) ?_
            refine lv_iconst (v := nI 4) hx hb dX3_pairsOf_207 (by decide) ?_
            refine lv_irem hx hb dX3_pairsOf_208 (by decide) ?_
            refine zti (pk_rem (a := j) (d := 4) (by omega) (by omega) (by omega)) ?_
            refine lv_iconst (v := nI 0) hx hb dX3_pairsOf_209 (by decide) ?_
            refine vp_callSi (W.runS (As := [.ref rw, .int (nI (j % 4)), .int (nI 0)]) (rest := [.int (nI (4 * (bia B (j / 4) (bil B (j / 4) - 1)))), .int (nI 1), .int (nI (bps B (bxs B (biter B k) (B 0)).2 j))]) ⟨hx, hb, hml, hown, hts⟩ (m_X3_imageAt l g rw B (j % 4) 0 (by omega) (by first | assumption | omega | exact (hB.kd (by omega)).2) (by first | assumption | omega | exact (hB.wl (by omega)).2) (by first | assumption | omega)) (va_cwS 3 hts (lw_S q1542 q1543 q69 q1544) rfl rfl rfl hdS_X3_imageAt ⟨Nat.le_of_ble_eq_true rfl, Nat.le_of_ble_eq_true rfl⟩) (zpreS hK hN hP) rfl rfl hl.1 rfl (lv_room (Nat.le_of_ble_eq_true rfl)) dX3_pairsOf_210 ⟨Nat.le_of_ble_eq_true rfl, Nat.le_of_ble_eq_true rfl⟩) (fun r_210 hr_210 => ?_)
            subst hr_210
            refine lv_iadd hx hb dX3_pairsOf_213 ?_
            refine zti (nI_add (4 * (bia B (j / 4) (bil B (j / 4) - 1))) (bia B (j % 4) 0)) ?_
            refine lv_ishl hx hb dX3_pairsOf_214 ?_
            refine zti (zshl1 (a := 4 * (bia B (j / 4) (bil B (j / 4) - 1)) + (bia B (j % 4) 0)) (by omega)) ?_
            refine lv_ior hx hb dX3_pairsOf_215 ?_
            refine zti (z_or (bps B (bxs B (biter B k) (B 0)).2 j) (2 ^ (4 * (bia B (j / 4) (bil B (j / 4) - 1)) + (bia B (j % 4) 0)))) ?_
            refine lv_istore_n (lv' := [(2, .int (nI ((bps B (bxs B (biter B k) (B 0)).2 j) ||| (2 ^ (4 * (bia B (j / 4) (bil B (j / 4) - 1)) + (bia B (j % 4) 0)))))), (5, .int (nI (bia B (j / 4) (bil B (j / 4) - 1)))), (0, .ref rw), (1, .int (nI ((bxs B (biter B k) (B 0)).1))), (3, .int (nI k)), (4, .int (nI j))]) hx hb dX3_pairsOf_216 rfl hl (by decide) rfl (fun ls hl => ?_)
            refine lv_iinc (v := nI (j + 1)) (lv' := [(4, .int (nI (j + 1))), (2, .int (nI ((bps B (bxs B (biter B k) (B 0)).2 j) ||| (2 ^ (4 * (bia B (j / 4) (bil B (j / 4) - 1)) + (bia B (j % 4) 0)))))), (5, .int (nI (bia B (j / 4) (bil B (j / 4) - 1)))), (0, .ref rw), (1, .int (nI ((bxs B (biter B k) (B 0)).1))), (3, .int (nI k))]) hx hb dX3_pairsOf_217 hl (k := 5) rfl (nI_add j 1) (by decide) rfl (fun ls hl => ?_)
            refine lv_goto (tgt := 162) hx hb dX3_pairsOf_220 (by decide) ?_
            exact ih_162 (by omega) _ (by rw [show bps B (bxs B (biter B k) (B 0)).2 (j + 1) = _ from zif_t c_175]; exact lv_sub hl [3, 4, 1, 5, 0] rfl)
      · have hx0 : x < B 0 := by omega
        have hxk := (hB.kd hx0).2
        have hxw := (hB.wl hx0).2
        have hxl := hB.il hx0
        refine lv_iconst (v := nI 0) hx hb dX3_pairsOf_76 (by decide) ?_
        refine lv_istore (lv' := [(5, .int (nI 0)), (0, .ref rw), (1, .int (nI ((bxs B (biter B k) x).1))), (2, .int (nI ((bxs B (biter B k) x).2))), (3, .int (nI k)), (4, .int (nI x))]) hx hb dX3_pairsOf_77 hl (by decide) rfl (fun ls hl => ?_)
        by_cases hbx : (bxs B (biter B k) x).1.testBit x = true
        · refine zloop (head := 79) (nL := 6) (bil B x) (fun i => [(0, .ref rw), (1, .int (nI (blx B x (bxs B (biter B k) x).1 i))), (2, .int (nI (bpx B x (bxs B (biter B k) x).2 i))), (3, .int (nI k)), (4, .int (nI x)), (5, .int (nI i))]) (fun i hv_i ih_79 ls hl => ?_) 0 (Nat.zero_le _) (lv_sub hl [1, 2, 3, 4, 5, 0] rfl)
          refine lv_iload hx hb dX3_pairsOf_79 (lv_at hl 5 rfl) ?_
          refine lv_aload_n hx hb dX3_pairsOf_81 rfl (lv_at hl 0 rfl) ?_
          refine lv_iload hx hb dX3_pairsOf_82 (lv_at hl 4 rfl) ?_
          refine vp_callSi (W.runS (As := [.ref rw, .int (nI x)]) (rest := [.int (nI i)]) ⟨hx, hb, hml, hown, hts⟩ (m_X3_imageSize l g rw B x (by omega) (by first | assumption | omega | exact (hB.kd (by omega)).2)) (va_cwS 2 hts (lw_S q1539 q1540 q69 q1541) rfl rfl rfl hdS_X3_imageSize ⟨Nat.le_of_ble_eq_true rfl, Nat.le_of_ble_eq_true rfl⟩) (zpreS hK hN hP) rfl rfl hl.1 rfl (lv_room (Nat.le_of_ble_eq_true rfl)) dX3_pairsOf_84 ⟨Nat.le_of_ble_eq_true rfl, Nat.le_of_ble_eq_true rfl⟩) (fun r_84 hr_84 => ?_)
          subst hr_84
          refine zc_ge (tgt := 153) hx hb (by omega) (by omega) dX3_pairsOf_87 (by decide) (fun c_87 => ?_) (fun c_87 => ?_)
          · obtain rfl : bil B x = i := by omega
            refine lv_iinc (v := nI (x + 1)) (lv' := [(4, .int (nI (x + 1))), (0, .ref rw), (1, .int (nI (blx B x (bxs B (biter B k) x).1 (bil B x)))), (2, .int (nI (bpx B x (bxs B (biter B k) x).2 (bil B x)))), (3, .int (nI k)), (5, .int (nI (bil B x)))]) hx hb dX3_pairsOf_153 hl (k := 4) rfl (nI_add x 1) (by decide) rfl (fun ls hl => ?_)
            refine lv_goto (tgt := 68) hx hb dX3_pairsOf_156 (by decide) ?_
            exact ih_68 (by omega) _ (by rw [show bxs B (biter B k) (x + 1) = (blx B x (bxs B (biter B k) x).1 (bil B x), bpx B x (bxs B (biter B k) x).2 (bil B x)) from zif_t hbx]; exact lv_sub hl [1, 2, 3, 4, 0] rfl)
          · have hz1 := (hB.lx hx0 (show i ≤ bil B x by omega) hxs.1).lt h0
            refine lv_iload_n hx hb dX3_pairsOf_90 rfl (lv_at hl 1 rfl) ?_
            refine lv_iload hx hb dX3_pairsOf_91 (lv_at hl 4 rfl) ?_
            refine vp_callSi (W.runS (As := [.int (nI (blx B x (bxs B (biter B k) x).1 i)), .int (nI x)]) (rest := []) ⟨hx, hb, hml, hown, hts⟩ (m_X3_has l g (nI (blx B x (bxs B (biter B k) x).1 i)) (nI x)) (va_cwS 2 hts (lw_S q1617 q1618 q69 q1619) rfl rfl rfl hdS_X3_has ⟨Nat.le_of_ble_eq_true rfl, Nat.le_of_ble_eq_true rfl⟩) (zpreS hK hN trivial) rfl rfl hl.1 rfl (lv_room (Nat.le_of_ble_eq_true rfl)) dX3_pairsOf_93 ⟨Nat.le_of_ble_eq_true rfl, Nat.le_of_ble_eq_true rfl⟩) (fun r_93 hr_93 => ?_)
            subst hr_93
            refine zti (zB_c (zhas_nI (n := blx B x (bxs B (biter B k) x).1 i) (k := x) (by omega) (by omega))) ?_
            refine zi_eqB (tgt := 153) hx hb dX3_pairsOf_96 (by decide) (fun c_96 => ?_) (fun c_96 => ?_)
            · exact absurd (zor_bit.mpr (Or.inl hbx)) c_96
            · have hia := hB.ia hx0 (show i < bil B x by omega)
              have hia2 := hB.ia hx0 (show i - 1 < bil B x by omega)
              refine lv_iload_n hx hb dX3_pairsOf_99 rfl (lv_at hl 1 rfl) ?_
              refine lv_iconst (v := nI 1) hx hb dX3_pairsOf_100 (by decide) ?_
              refine lv_aload_n hx hb dX3_pairsOf_101 rfl (lv_at hl 0 rfl) ?_
              refine lv_iload hx hb dX3_pairsOf_102 (lv_at hl 4 rfl) ?_
              refine lv_iload hx hb dX3_pairsOf_104 (lv_at hl 5 rfl) ?_
              refine vp_callSi (W.runS (As := [.ref rw, .int (nI x), .int (nI i)]) (rest := [.int (nI 1), .int (nI (blx B x (bxs B (biter B k) x).1 i))]) ⟨hx, hb, hml, hown, hts⟩ (m_X3_imageAt l g rw B x i (by omega) (by first | assumption | omega | exact (hB.kd (by omega)).2) (by first | assumption | omega | exact (hB.wl (by omega)).2) (by first | assumption | omega)) (va_cwS 3 hts (lw_S q1542 q1543 q69 q1544) rfl rfl rfl hdS_X3_imageAt ⟨Nat.le_of_ble_eq_true rfl, Nat.le_of_ble_eq_true rfl⟩) (zpreS hK hN hP) rfl rfl hl.1 rfl (lv_room (Nat.le_of_ble_eq_true rfl)) dX3_pairsOf_106 ⟨Nat.le_of_ble_eq_true rfl, Nat.le_of_ble_eq_true rfl⟩) (fun r_106 hr_106 => ?_)
              subst hr_106
              refine lv_ishl hx hb dX3_pairsOf_109 ?_
              refine zti (zshl1 (a := bia B x i) (by omega)) ?_
              refine lv_ior hx hb dX3_pairsOf_110 ?_
              refine zti (z_or (blx B x (bxs B (biter B k) x).1 i) (2 ^ (bia B x i))) ?_
              refine lv_istore_n (lv' := [(1, .int (nI ((blx B x (bxs B (biter B k) x).1 i) ||| (2 ^ (bia B x i))))), (0, .ref rw), (2, .int (nI (bpx B x (bxs B (biter B k) x).2 i))), (3, .int (nI k)), (4, .int (nI x)), (5, .int (nI i))]) hx hb dX3_pairsOf_111 rfl hl (by decide) rfl (fun ls hl => ?_)
              refine lv_iload_n hx hb dX3_pairsOf_112 rfl (lv_at hl 2 rfl) ?_
              refine zjoin (ls := ls) (α := Int32) (fun v9 => v9 = nI (zif (0 < i) (2 ^ (4 * bia B x (i - 1) + bia B x i)) 0)) (fun v9 => .int v9 :: [.int (nI (bpx B x (bxs B (biter B k) x).2 i))]) 145 (fun v9 hv => ?_) (fun jn_113 => ?_)
              · subst hv
                refine lv_ior hx hb dX3_pairsOf_145 ?_
                refine zti (z_or (bpx B x (bxs B (biter B k) x).2 i) (zif (0 < i) (2 ^ (4 * bia B x (i - 1) + bia B x i)) 0)) ?_
                refine lv_istore_n (lv' := [(2, .int (nI ((bpx B x (bxs B (biter B k) x).2 i) ||| (zif (0 < i) (2 ^ (4 * bia B x (i - 1) + bia B x i)) 0)))), (1, .int (nI ((blx B x (bxs B (biter B k) x).1 i) ||| (2 ^ (bia B x i))))), (0, .ref rw), (3, .int (nI k)), (4, .int (nI x)), (5, .int (nI i))]) hx hb dX3_pairsOf_146 rfl hl (by decide) rfl (fun ls hl => ?_)
                refine lv_iinc (v := nI (i + 1)) (lv' := [(5, .int (nI (i + 1))), (2, .int (nI ((bpx B x (bxs B (biter B k) x).2 i) ||| (zif (0 < i) (2 ^ (4 * bia B x (i - 1) + bia B x i)) 0)))), (1, .int (nI ((blx B x (bxs B (biter B k) x).1 i) ||| (2 ^ (bia B x i))))), (0, .ref rw), (3, .int (nI k)), (4, .int (nI x))]) hx hb dX3_pairsOf_147 hl (k := 5) rfl (nI_add i 1) (by decide) rfl (fun ls hl => ?_)
                refine lv_goto (tgt := 79) hx hb dX3_pairsOf_150 (by decide) ?_
                exact ih_79 (by omega) _ (lv_sub hl [3, 2, 1, 4, 5, 0] rfl)
              · refine lv_iload hx hb dX3_pairsOf_113 (lv_at hl 5 rfl) ?_
                refine zi_le (tgt := 144) hx hb (by omega) dX3_pairsOf_115 (by decide) (fun c_115 => ?_) (fun c_115 => ?_)
                · refine lv_iconst (v := nI 0) hx hb dX3_pairsOf_144 (by decide) ?_
                  exact jn_113 _ ((congrArg nI (zif_f c_115)).symm)
                · refine lv_iconst (v := nI 1) hx hb dX3_pairsOf_118 (by decide) ?_
                  refine lv_iconst (v := nI 4) hx hb dX3_pairsOf_119 (by decide) ?_
                  refine lv_aload_n hx hb dX3_pairsOf_120 rfl (lv_at hl 1 rfl) ?_
                  refine lv_iload hx hb dX3_pairsOf_121 (lv_at hl 4 rfl) ?_
                  refine lv_iload hx hb dX3_pairsOf_123 (lv_at hl 5 rfl) ?_
                  refine lv_iconst (v := nI 1) hx hb dX3_pairsOf_125 (by decide) ?_
                  refine lv_isub hx hb dX3_pairsOf_126 ?_
                  refine zti (pk_sub (a := i) (b := 1) (by omega)) ?_
                  refine vp_callSi (W.runS (As := [.ref rw, .int (nI x), .int (nI (i - 1))]) (rest := [.int (nI 4), .int (nI 1), .int (nI (bpx B x (bxs B (biter B k) x).2 i))]) ⟨hx, hb, hml, hown, hts⟩ (m_X3_imageAt l g rw B x (i - 1) (by omega) (by first | assumption | omega | exact (hB.kd (by omega)).2) (by first | assumption | omega | exact (hB.wl (by omega)).2) (by first | assumption | omega)) (va_cwS 3 hts (lw_S q1542 q1543 q69 q1544) rfl rfl rfl hdS_X3_imageAt ⟨Nat.le_of_ble_eq_true rfl, Nat.le_of_ble_eq_true rfl⟩) (zpreS hK hN hP) rfl rfl hl.1 rfl (lv_room (Nat.le_of_ble_eq_true rfl)) dX3_pairsOf_127 ⟨Nat.le_of_ble_eq_true rfl, Nat.le_of_ble_eq_true rfl⟩) (fun r_127 hr_127 => ?_)
                  subst hr_127
                  refine lv_imul hx hb dX3_pairsOf_130 ?_
                  refine zti (pk_mul 4 (bia B x (i - 1))) ?_
                  refine lv_aload_n hx hb dX3_pairsOf_131 rfl (lv_at hl 1 rfl) ?_
                  refine lv_iload hx hb dX3_pairsOf_132 (lv_at hl 4 rfl) ?_
                  refine lv_iload hx hb dX3_pairsOf_134 (lv_at hl 5 rfl) ?_
                  refine vp_callSi (W.runS (As := [.ref rw, .int (nI x), .int (nI i)]) (rest := [.int (nI (4 * (bia B x (i - 1)))), .int (nI 1), .int (nI (bpx B x (bxs B (biter B k) x).2 i))]) ⟨hx, hb, hml, hown, hts⟩ (m_X3_imageAt l g rw B x i (by omega) (by first | assumption | omega | exact (hB.kd (by omega)).2) (by first | assumption | omega | exact (hB.wl (by omega)).2) (by first | assumption | omega)) (va_cwS 3 hts (lw_S q1542 q1543 q69 q1544) rfl rfl rfl hdS_X3_imageAt ⟨Nat.le_of_ble_eq_true rfl, Nat.le_of_ble_eq_true rfl⟩) (zpreS hK hN hP) rfl rfl hl.1 rfl (lv_room (Nat.le_of_ble_eq_true rfl)) dX3_pairsOf_136 ⟨Nat.le_of_ble_eq_true rfl, Nat.le_of_ble_eq_true rfl⟩) (fun r_136 hr_136 => ?_)
                  subst hr_136
                  refine lv_iadd hx hb dX3_pairsOf_139 ?_
                  refine zti (nI_add (4 * (bia B x (i - 1))) (bia B x i)) ?_
                  refine lv_ishl hx hb dX3_pairsOf_140 ?_
                  refine zti (zshl1 (a := 4 * (bia B x (i - 1)) + bia B x i) (by omega)) ?_
                  refine lv_goto (tgt := 145) hx hb dX3_pairsOf_141 (by decide) ?_
                  exact jn_113 _ ((congrArg nI (zif_t c_115)).symm)
        · have hz1 := hxs.1.lt h0
          refine lv_iload hx hb dX3_pairsOf_79 (lv_at hl 0 rfl) ?_
          refine lv_aload_n hx hb dX3_pairsOf_81 rfl (lv_at hl 1 rfl) ?_
          refine lv_iload hx hb dX3_pairsOf_82 (lv_at hl 5 rfl) ?_
          refine vp_callSi (W.runS (As := [.ref rw, .int (nI x)]) (rest := [.int (nI 0)]) ⟨hx, hb, hml, hown, hts⟩ (m_X3_imageSize l g rw B x (by omega) (by first | assumption | omega | exact (hB.kd (by omega)).2)) (va_cwS 2 hts (lw_S q1539 q1540 q69 q1541) rfl rfl rfl hdS_X3_imageSize ⟨Nat.le_of_ble_eq_true rfl, Nat.le_of_ble_eq_true rfl⟩) (zpreS hK hN hP) rfl rfl hl.1 rfl (lv_room (Nat.le_of_ble_eq_true rfl)) dX3_pairsOf_84 ⟨Nat.le_of_ble_eq_true rfl, Nat.le_of_ble_eq_true rfl⟩) (fun r_84 hr_84 => ?_)
          subst hr_84
          refine zc_ge (tgt := 153) hx hb (by omega) (by omega) dX3_pairsOf_87 (by decide) (fun c_87 => ?_) (fun c_87 => ?_)
          · omega
          · refine lv_iload_n hx hb dX3_pairsOf_90 rfl (lv_at hl 2 rfl) ?_
            refine lv_iload hx hb dX3_pairsOf_91 (lv_at hl 5 rfl) ?_
            refine vp_callSi (W.runS (As := [.int (nI ((bxs B (biter B k) x).1)), .int (nI x)]) (rest := []) ⟨hx, hb, hml, hown, hts⟩ (m_X3_has l g (nI ((bxs B (biter B k) x).1)) (nI x)) (va_cwS 2 hts (lw_S q1617 q1618 q69 q1619) rfl rfl rfl hdS_X3_has ⟨Nat.le_of_ble_eq_true rfl, Nat.le_of_ble_eq_true rfl⟩) (zpreS hK hN trivial) rfl rfl hl.1 rfl (lv_room (Nat.le_of_ble_eq_true rfl)) dX3_pairsOf_93 ⟨Nat.le_of_ble_eq_true rfl, Nat.le_of_ble_eq_true rfl⟩) (fun r_93 hr_93 => ?_)
            subst hr_93
            refine zti (zB_c (zhas_nI (n := (bxs B (biter B k) x).1) (k := x) (by omega) (by omega))) ?_
            refine zi_eqB (tgt := 153) hx hb dX3_pairsOf_96 (by decide) (fun c_96 => ?_) (fun c_96 => ?_)
            · refine lv_iinc (v := nI (x + 1)) (lv' := [(4, .int (nI (x + 1))), (5, .int (nI 0)), (0, .ref rw), (1, .int (nI ((bxs B (biter B k) x).1))), (2, .int (nI ((bxs B (biter B k) x).2))), (3, .int (nI k))]) hx hb dX3_pairsOf_153 hl (k := 5) rfl (nI_add x 1) (by decide) rfl (fun ls hl => ?_)
              refine lv_goto (tgt := 68) hx hb dX3_pairsOf_156 (by decide) ?_
              exact ih_68 (by omega) _ (by rw [show bxs B (biter B k) (x + 1) = bxs B (biter B k) x from zif_f hbx]; exact lv_sub hl [2, 3, 4, 5, 0] rfl)
            · exact absurd c_96 hbx
  · have hr1 := hB.row (show k < B 3 by omega)
    have hr0 : 0 < k → B (4 + k - 1) < B 0 := fun hz => by have := hB.row (show k - 1 < B 3 by omega); rw [show 4 + (k - 1) = 4 + k - 1 by omega] at this; exact this
    refine lv_iload_n hx hb dX3_pairsOf_13 rfl (lv_at hl 1 rfl) ?_
    refine lv_iconst (v := nI 1) hx hb dX3_pairsOf_14 (by decide) ?_
    refine lv_aload_n hx hb dX3_pairsOf_15 rfl (lv_at hl 0 rfl) ?_
    refine lv_iconst (v := nI 4) hx hb dX3_pairsOf_16 (by decide) ?_
    refine lv_iload_n hx hb dX3_pairsOf_17 rfl (lv_at hl 3 rfl) ?_
    refine lv_iadd hx hb dX3_pairsOf_18 ?_
    refine zti (nI_add 4 k) ?_
    refine zald hx hb hK hP 0 0 rfl rfl (j := 4 + k) (by omega) (by decide) dX3_pairsOf_19 ?_
    refine zti (show (nF B) (4 + k) = nI (B (4 + k)) from rfl) ?_
    refine lv_ishl hx hb dX3_pairsOf_20 ?_
    refine zti (zshl1 (a := B (4 + k)) (by omega)) ?_
    refine lv_ior hx hb dX3_pairsOf_21 ?_
    refine zti (z_or (bl0 B k) (2 ^ (B (4 + k)))) ?_
    refine lv_istore_n (lv' := [(1, .int (nI ((bl0 B k) ||| (2 ^ (B (4 + k)))))), (0, .ref rw), (2, .int (nI (bp0 B k))), (3, .int (nI k))]) hx hb dX3_pairsOf_22 rfl hl (by decide) rfl (fun ls hl => ?_)
    refine lv_iload_n hx hb dX3_pairsOf_23 rfl (lv_at hl 2 rfl) ?_
    refine zjoin (ls := ls) (α := Int32) (fun v9 => v9 = nI (zif (0 < k) (2 ^ (4 * B (4 + k - 1) + B (4 + k))) 0)) (fun v9 => .int v9 :: [.int (nI (bp0 B k))]) 49 (fun v9 hv => ?_) (fun jn_24 => ?_)
    · subst hv
      refine lv_ior hx hb dX3_pairsOf_49 ?_
      refine zti (z_or (bp0 B k) (zif (0 < k) (2 ^ (4 * B (4 + k - 1) + B (4 + k))) 0)) ?_
      refine lv_istore_n (lv' := [(2, .int (nI ((bp0 B k) ||| (zif (0 < k) (2 ^ (4 * B (4 + k - 1) + B (4 + k))) 0)))), (1, .int (nI ((bl0 B k) ||| (2 ^ (B (4 + k)))))), (0, .ref rw), (3, .int (nI k))]) hx hb dX3_pairsOf_50 rfl hl (by decide) rfl (fun ls hl => ?_)
      refine lv_iinc (v := nI (k + 1)) (lv' := [(3, .int (nI (k + 1))), (2, .int (nI ((bp0 B k) ||| (zif (0 < k) (2 ^ (4 * B (4 + k - 1) + B (4 + k))) 0)))), (1, .int (nI ((bl0 B k) ||| (2 ^ (B (4 + k)))))), (0, .ref rw)]) hx hb dX3_pairsOf_51 hl (k := 3) rfl (nI_add k 1) (by decide) rfl (fun ls hl => ?_)
      refine lv_goto (tgt := 6) hx hb dX3_pairsOf_54 (by decide) ?_
      exact ih_6 (by omega) _ (lv_sub hl [3, 2, 1, 0] rfl)
    · refine lv_iload_n hx hb dX3_pairsOf_24 rfl (lv_at hl 3 rfl) ?_
      refine zi_le (tgt := 48) hx hb (by omega) dX3_pairsOf_25 (by decide) (fun c_25 => ?_) (fun c_25 => ?_)
      · refine lv_iconst (v := nI 0) hx hb dX3_pairsOf_48 (by decide) ?_
        exact jn_24 _ ((congrArg nI (zif_f c_25)).symm)
      · have hr2 := hr0 c_25
        refine lv_iconst (v := nI 1) hx hb dX3_pairsOf_28 (by decide) ?_
        refine lv_iconst (v := nI 4) hx hb dX3_pairsOf_29 (by decide) ?_
        refine lv_aload_n hx hb dX3_pairsOf_30 rfl (lv_at hl 1 rfl) ?_
        refine lv_iconst (v := nI 4) hx hb dX3_pairsOf_31 (by decide) ?_
        refine lv_iload_n hx hb dX3_pairsOf_32 rfl (lv_at hl 3 rfl) ?_
        refine lv_iadd hx hb dX3_pairsOf_33 ?_
        refine zti (nI_add 4 k) ?_
        refine lv_iconst (v := nI 1) hx hb dX3_pairsOf_34 (by decide) ?_
        refine lv_isub hx hb dX3_pairsOf_35 ?_
        refine zti (pk_sub (a := 4 + k) (b := 1) (by omega)) ?_
        refine zald hx hb hK hP 0 0 rfl rfl (j := 4 + k - 1) (by omega) (by decide) dX3_pairsOf_36 ?_
        refine zti (show (nF B) (4 + k - 1) = nI (B (4 + k - 1)) from rfl) ?_
        refine lv_imul hx hb dX3_pairsOf_37 ?_
        refine zti (pk_mul 4 (B (4 + k - 1))) ?_
        refine lv_aload_n hx hb dX3_pairsOf_38 rfl (lv_at hl 1 rfl) ?_
        refine lv_iconst (v := nI 4) hx hb dX3_pairsOf_39 (by decide) ?_
        refine lv_iload_n hx hb dX3_pairsOf_40 rfl (lv_at hl 3 rfl) ?_
        refine lv_iadd hx hb dX3_pairsOf_41 ?_
        refine zti (nI_add 4 k) ?_
        refine zald hx hb hK hP 0 0 rfl rfl (j := 4 + k) (by omega) (by decide) dX3_pairsOf_42 ?_
        refine zti (show (nF B) (4 + k) = nI (B (4 + k)) from rfl) ?_
        refine lv_iadd hx hb dX3_pairsOf_43 ?_
        refine zti (nI_add (4 * (B (4 + k - 1))) (B (4 + k))) ?_
        refine lv_ishl hx hb dX3_pairsOf_44 ?_
        refine zti (zshl1 (a := 4 * (B (4 + k - 1)) + (B (4 + k))) (by omega)) ?_
        refine lv_goto (tgt := 49) hx hb dX3_pairsOf_45 (by decide) ?_
        exact jn_24 _ ((congrArg nI (zif_t c_25)).symm)
