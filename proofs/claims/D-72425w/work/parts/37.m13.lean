/-! the twin: ways back -/
set_option maxHeartbeats 4000000 in
set_option maxRecDepth 100000 in
theorem m_X3_layWays (l : Launch) (g : zG) (ad : Nat → Nat) (fi : Nat → Int32) (cn : Nat → Nat → Int32) (xl : Nat → Nat → Int64) (sz : Nat) (B V : Nat → Nat) (E : Nat → Prop) (it : Nat → Int32) (hc4 : cn 4 = nF B) (hc24 : cn 24 = nF V) (hc25 : cn 25 = zF E) (hc3 : cn 3 = it) (hB : bOK B) (r n : Nat) (hr8 : r < 8) (hn0 : 0 < n) (hn40 : n ≤ 40) : Met l yX3_layWays (ws_ yX3_layWays cX3_layWays 6 none) ({ frames := 3, cells := 0, slots := 0, locals := 71 }) (zPc g [.ref (ad 0), .int (nI r), .int (nI n)] (mH g ad fi cn xl sz)) (va_Qv (fun u => True ∧ ∃ W9 E9, u = (fi, va_up (va_up cn 24 (nF W9)) 25 (zF E9), xl) ∧ W9 n = min 1000000 (bV B (fun j => it (40 * r + j)) n 0) ∧ ∀ t, t ≤ n → (E9 t ↔ 0 < bV B (fun j => it (40 * r + j)) n t)) (mB g ad sz) (mA ad sz)) 0 0 (mA ad sz) := by
  refine Met.ofW (cc := cX3_layWays) (maxL := 6) (ret := none) (by decide) rfl ?_
  intro p e s m args below meth c s₁ B0 hml hv
  obtain ⟨rfl, ⟨hK, hN⟩, hsz, hP, hD⟩ := hv
  have hx := B0.exec
  have hb := B0.bytes
  have hr := B0.returns
  have hts := atoms_spec (ws := ws_ yX3_layWays cX3_layWays 6 none) B0.pre
  have hts : ∀ w ∈ lw_all, w.before _ s = true := fun w h => hts w (List.mem_cons_of_mem _ h)
  have hown : s.vm.findClass RX3 = some m.cls := findClass_of_methodNamed B0.named
  have hlocks := B0.notSynchronized
  subst hsz
  have hD := mD_self s.heap.size hD
  have hS : va_S (mA ad s.heap.size) s.heap s.heap [] := va_S.rf
  have hl := lv_entry ([.ref (ad 0), .int (nI r), .int (nI n)]) (n := 6) (Nat.le_of_ble_eq_true rfl)
  rw [lg_entry_eq]
  generalize (lg_sl ([.ref (ad 0), .int (nI r), .int (nI n)]) ++ List.replicate (6 - (lg_sl ([.ref (ad 0), .int (nI r), .int (nI n)])).length) Slot.unset).toArray = ls at hl ⊢
  have hl : lv_has ls 6 [(0, .ref (ad 0)), (1, .int (nI r)), (2, .int (nI n))] := hl
  have h0 : B 0 ≤ 4 := hB.n4
  have h3 : B 3 ≤ 8 := hB.r8
  refine lv_iconst (v := nI 0) hx hb dX3_layWays_0 (by decide) ?_
  refine lv_istore_n (lv' := [(3, .int (nI 0)), (0, .ref (ad 0)), (1, .int (nI r)), (2, .int (nI n))]) hx hb dX3_layWays_1 rfl hl (by decide) rfl (fun ls hl => ?_)
  refine zloopW (head := 2) (n + 1) (fun k H locs cells slots ls => ∃ (W0 : Nat → Nat) (E0 : Nat → Prop), cells = 0 ∧ slots = 0 ∧ va_P g.1 zCL (mW g ad fi (va_up (va_up cn 24 (nF W0)) 25 (zF E0)) xl) H ∧ va_D (mA ad s.heap.size) (mW g ad fi (va_up (va_up cn 24 (nF W0)) 25 (zF E0)) xl) ∧ va_S (mA ad s.heap.size) s.heap H locs ∧ lv_has ls 6 [(0, .ref (ad 0)), (1, .int (nI r)), (2, .int (nI n)), (3, .int (nI k))] ∧ (∀ t, t < k → W0 t = zif (t = 0) 1 0 ∧ (E0 t ↔ t = n))) (fun k hv_k ih_2 H locs cells slots ls hI => ?_) 0 (Nat.zero_le _) ?_
  · obtain ⟨W0, E0, rfl, rfl, hP, hD, hS, hl, hI_2⟩ := hI
    refine lv_iload_n hx hb dX3_layWays_2 rfl (lv_at hl 3 rfl) ?_
    refine lv_iload_n hx hb dX3_layWays_3 rfl (lv_at hl 2 rfl) ?_
    refine zc_gt (tgt := 44) hx hb (by omega) (by omega) dX3_layWays_4 (by decide) (fun c_4 => ?_) (fun c_4 => ?_)
    · obtain rfl : k = n + 1 := by omega
      refine lv_iconst (v := nI 0) hx hb dX3_layWays_44 (by decide) ?_
      refine lv_istore_n (lv' := [(3, .int (nI 0)), (0, .ref (ad 0)), (1, .int (nI r)), (2, .int (nI n))]) hx hb dX3_layWays_45 rfl hl (by decide) rfl (fun ls hl => ?_)
      refine zloopW (head := 46) (n) (fun k H locs cells slots ls => ∃ (W1 : Nat → Nat), cells = 0 ∧ slots = 0 ∧ va_P g.1 zCL (mW g ad fi (va_up (va_up cn 24 (nF W1)) 25 (zF E0)) xl) H ∧ va_D (mA ad s.heap.size) (mW g ad fi (va_up (va_up cn 24 (nF W1)) 25 (zF E0)) xl) ∧ va_S (mA ad s.heap.size) s.heap H locs ∧ lv_has ls 6 [(0, .ref (ad 0)), (1, .int (nI r)), (2, .int (nI n)), (3, .int (nI k))] ∧ (∀ t, t ≤ n → W1 t = min 1000000 (bA B (fun j => it (40 * r + j)) n k t))) (fun k hv_k ih_46 H locs cells slots ls hI => ?_) 0 (Nat.zero_le _) ?_
      · obtain ⟨W1, rfl, rfl, hP, hD, hS, hl, hI_46⟩ := hI
        refine lv_iload_n hx hb dX3_layWays_46 rfl (lv_at hl 3 rfl) ?_
        refine lv_iload_n hx hb dX3_layWays_47 rfl (lv_at hl 2 rfl) ?_
        refine zc_ge (tgt := 149) hx hb (by omega) (by omega) dX3_layWays_48 (by decide) (fun c_48 => ?_) (fun c_48 => ?_)
        · obtain rfl : n = k := by omega
          have hW9 : W1 n = min 1000000 (bV B (fun j => it (40 * r + j)) n 0) := by rw [hI_46 n (Nat.le_refl _), bA_n hB]
          refine lv_iload_n hx hb dX3_layWays_149 rfl (lv_at hl 2 rfl) ?_
          refine lv_iconst (v := nI 1) hx hb dX3_layWays_150 (by decide) ?_
          refine lv_isub hx hb dX3_layWays_151 ?_
          refine zti (pk_sub (a := n) (b := 1) (by omega)) ?_
          refine lv_istore_n (lv' := [(3, .int (nI (n - 1))), (0, .ref (ad 0)), (1, .int (nI r)), (2, .int (nI n))]) hx hb dX3_layWays_152 rfl hl (by decide) rfl (fun ls hl => ?_)
          have hl : lv_has ls 6 [(3, .int (zdn n)), (0, .ref (ad 0)), (1, .int (nI r)), (2, .int (nI n))] := by rw [zdn_p hn0]; exact hl
          refine zloopW (head := 153) (n) (fun k H locs cells slots ls => ∃ (E1 : Nat → Prop), cells = 0 ∧ slots = 0 ∧ va_P g.1 zCL (mW g ad fi (va_up (va_up cn 24 (nF W1)) 25 (zF E1)) xl) H ∧ va_D (mA ad s.heap.size) (mW g ad fi (va_up (va_up cn 24 (nF W1)) 25 (zF E1)) xl) ∧ va_S (mA ad s.heap.size) s.heap H locs ∧ lv_has ls 6 [(0, .ref (ad 0)), (1, .int (nI r)), (2, .int (nI n)), (3, .int (zdn (n - k)))] ∧ ((∀ t, n - k ≤ t → t ≤ n → (E1 t ↔ 0 < bV B (fun j => it (40 * r + j)) n t)) ∧ ∀ t, t < n - k → ¬ E1 t)) (fun k hv_k ih_153 H locs cells slots ls hI => ?_) 0 (Nat.zero_le _) ?_
          · obtain ⟨E1, rfl, rfl, hP, hD, hS, hl, hI_153⟩ := hI
            refine lv_iload_n hx hb dX3_layWays_153 rfl (lv_at hl 3 rfl) ?_
            by_cases hkn : k < n
            · have hzd : zdn (n - k) = nI (n - 1 - k) := by rw [zdn_p (by omega)]; congr 1; omega
              rw [hzd] at hl
              refine zti (show _ = nI (n - 1 - k) from hzd) ?_
              refine zi_ltN (tgt := 234) hx hb (by omega) dX3_layWays_154 (by decide) ?_
              refine lv_iconst (v := nI 0) hx hb dX3_layWays_157 (by decide) ?_
              refine lv_istore (lv' := [(4, .int (nI 0)), (0, .ref (ad 0)), (1, .int (nI r)), (2, .int (nI n)), (3, .int (nI (n - 1 - k)))]) hx hb dX3_layWays_158 hl (by decide) rfl (fun ls hl => ?_)
              refine zloopW (head := 160) (B 0) (fun x H locs cells slots ls => ∃ (E2 : Nat → Prop), cells = 0 ∧ slots = 0 ∧ va_P g.1 zCL (mW g ad fi (va_up (va_up cn 24 (nF W1)) 25 (zF E2)) xl) H ∧ va_D (mA ad s.heap.size) (mW g ad fi (va_up (va_up cn 24 (nF W1)) 25 (zF E2)) xl) ∧ va_S (mA ad s.heap.size) s.heap H locs ∧ lv_has ls 6 [(0, .ref (ad 0)), (1, .int (nI r)), (2, .int (nI n)), (3, .int (nI (n - 1 - k))), (4, .int (nI x))] ∧ ((∀ t, n - k ≤ t → t ≤ n → (E2 t ↔ 0 < bV B (fun j => it (40 * r + j)) n t)) ∧ (∀ t, t < n - 1 - k → ¬ E2 t) ∧ (E2 (n - 1 - k) ↔ ∃ y, y < x ∧ bimg B (fun j => it (40 * r + j)) y (n - 1 - k) n ∧ 0 < bV B (fun j => it (40 * r + j)) n (n - 1 - k + bil B y)))) (fun x hv_x ih_160 H locs cells slots ls hI => ?_) 0 (Nat.zero_le _) ?_
              · obtain ⟨E2, rfl, rfl, hP, hD, hS, hl, hI_160⟩ := hI
                refine lv_iload hx hb dX3_layWays_160 (lv_at hl 4 rfl) ?_
                refine lv_aload_n hx hb dX3_layWays_162 rfl (lv_at hl 0 rfl) ?_
                refine va_get (D := g.1) (ci := 3) (v := .ref (ad 4)) (C := RX3) (T := TX3) (N := 30) hx hb hts in_X3 hown hK hP 0 rfl rfl 4 (by decide) (hts _ q1301) (fun _ h9 => h9) rfl dX3_layWays_163 ?_
                refine lv_iconst (v := nI 0) hx hb dX3_layWays_166 (by decide) ?_
                refine zald hx hb hK hP 4 0 rfl rfl (j := 0) (by omega) (by decide) dX3_layWays_167 ?_
                refine zti (congrFun hc4 _) ?_
                refine zti (show (nF B) 0 = nI (B 0) from rfl) ?_
                refine zc_ge (tgt := 228) hx hb (by omega) (by omega) dX3_layWays_168 (by decide) (fun c_168 => ?_) (fun c_168 => ?_)
                · obtain rfl : B 0 = x := by omega
                  refine lv_iinc (v := zdn (n - 1 - k)) (lv' := [(3, .int (zdn (n - 1 - k))), (0, .ref (ad 0)), (1, .int (nI r)), (2, .int (nI n)), (4, .int (nI (B 0)))]) hx hb dX3_layWays_228 hl (k := 3) rfl (zdn_m _) (by decide) rfl (fun ls hl => ?_)
                  refine lv_goto (tgt := 153) hx hb dX3_layWays_231 (by decide) ?_
                  rw [show n - 1 - k = n - (k + 1) by omega] at hl
                  have hJ : (∀ t, n - (k + 1) ≤ t → t ≤ n → (E2 t ↔ 0 < bV B (fun j => it (40 * r + j)) n t)) ∧ ∀ t, t < n - (k + 1) → ¬ E2 t := by
                    refine ⟨fun t h8 h9 => ?_, fun t h8 => hI_160.2.1 t (by omega)⟩
                    by_cases q : t = n - 1 - k
                    · rw [q, hI_160.2.2, bV_pos hB (by omega)]
                    · exact hI_160.1 t (by omega) h9
                  exact ih_153 (by omega) _ _ _ _ _ ⟨E2, rfl, rfl, hP, hD, hS, lv_sub hl [1, 2, 3, 0] rfl, hJ⟩
                · refine lv_aload_n hx hb dX3_layWays_171 rfl (lv_at hl 0 rfl) ?_
                  refine va_get (D := g.1) (ci := 3) (v := .ref (ad 25)) (C := RX3) (T := TX3) (N := 30) hx hb hts in_X3 hown hK hP 0 rfl rfl 25 (by decide) (hts _ q1322) (fun _ h9 => h9) rfl dX3_layWays_172 ?_
                  refine lv_iload_n hx hb dX3_layWays_175 rfl (lv_at hl 3 rfl) ?_
                  have hx0 : x < B 0 := by omega
                  have hxl := hB.il hx0
                  have hxk := (hB.kd hx0).2
                  have hxw := (hB.wl hx0).2
                  refine zjoin (ls := ls) (α := Int32) (fun v9 => v9 = zB (∃ y, y < x + 1 ∧ bimg B (fun j => it (40 * r + j)) y (n - 1 - k) n ∧ 0 < bV B (fun j => it (40 * r + j)) n (n - 1 - k + bil B y))) (fun v9 => .int v9 :: [.int (nI (n - 1 - k)), .ref (ad 25)]) 221 (fun v9 hv => ?_) (fun jn_176 => ?_)
                  · subst hv
                    refine zasz (f := zF E2) hx hb hK hP hD hS 14 3 rfl rfl (j := n - 1 - k) (by omega) (by decide) dX3_layWays_221 (fun H locs hP hD hS => ?_)
                    rw [zF_up] at hP hD
                    have hP : va_P g.1 zCL (mW g ad fi (va_up (va_up cn 24 (nF W1)) 25 (zF (va_up E2 (n - 1 - k) (∃ y, y < x + 1 ∧ bimg B (fun j => it (40 * r + j)) y (n - 1 - k) n ∧ 0 < bV B (fun j => it (40 * r + j)) n (n - 1 - k + bil B y))))) xl) _ := hP
                    have hD : va_D (mA ad s.heap.size) (mW g ad fi (va_up (va_up cn 24 (nF W1)) 25 (zF (va_up E2 (n - 1 - k) (∃ y, y < x + 1 ∧ bimg B (fun j => it (40 * r + j)) y (n - 1 - k) n ∧ 0 < bV B (fun j => it (40 * r + j)) n (n - 1 - k + bil B y))))) xl) := hD
                    refine lv_iinc (v := nI (x + 1)) (lv' := [(4, .int (nI (x + 1))), (0, .ref (ad 0)), (1, .int (nI r)), (2, .int (nI n)), (3, .int (nI (n - 1 - k)))]) hx hb dX3_layWays_222 hl (k := 4) rfl (nI_add x 1) (by decide) rfl (fun ls hl => ?_)
                    refine lv_goto (tgt := 160) hx hb dX3_layWays_225 (by decide) ?_
                    have hJ : (∀ t, n - k ≤ t → t ≤ n → ((va_up E2 (n - 1 - k) (∃ y, y < x + 1 ∧ bimg B (fun j => it (40 * r + j)) y (n - 1 - k) n ∧ 0 < bV B (fun j => it (40 * r + j)) n (n - 1 - k + bil B y))) t ↔ 0 < bV B (fun j => it (40 * r + j)) n t)) ∧ (∀ t, t < n - 1 - k → ¬ (va_up E2 (n - 1 - k) (∃ y, y < x + 1 ∧ bimg B (fun j => it (40 * r + j)) y (n - 1 - k) n ∧ 0 < bV B (fun j => it (40 * r + j)) n (n - 1 - k + bil B y))) t) ∧ ((va_up E2 (n - 1 - k) (∃ y, y < x + 1 ∧ bimg B (fun j => it (40 * r + j)) y (n - 1 - k) n ∧ 0 < bV B (fun j => it (40 * r + j)) n (n - 1 - k + bil B y))) (n - 1 - k) ↔ ∃ y, y < (x + 1) ∧ bimg B (fun j => it (40 * r + j)) y (n - 1 - k) n ∧ 0 < bV B (fun j => it (40 * r + j)) n (n - 1 - k + bil B y)) := by
                      refine ⟨fun t h8 h9 => ?_, fun t h8 => ?_, ?_⟩
                      · rw [va_up_ne _ _ (show t ≠ n - 1 - k by omega)]; exact hI_160.1 t h8 h9
                      · rw [va_up_ne _ _ (show t ≠ n - 1 - k by omega)]; exact hI_160.2.1 t h8
                      · rw [va_up_self]
                    exact ih_160 (by omega) _ _ _ _ _ ⟨va_up E2 (n - 1 - k) (∃ y, y < x + 1 ∧ bimg B (fun j => it (40 * r + j)) y (n - 1 - k) n ∧ 0 < bV B (fun j => it (40 * r + j)) n (n - 1 - k + bil B y)), rfl, rfl, hP, hD, hS, lv_sub hl [1, 2, 3, 4, 0] rfl, hJ⟩
                  · refine lv_aload_n hx hb dX3_layWays_176 rfl (lv_at hl 0 rfl) ?_
                    refine va_get (D := g.1) (ci := 3) (v := .ref (ad 25)) (C := RX3) (T := TX3) (N := 30) hx hb hts in_X3 hown hK hP 0 rfl rfl 25 (by decide) (hts _ q1322) (fun _ h9 => h9) rfl dX3_layWays_177 ?_
                    refine lv_iload_n hx hb dX3_layWays_180 rfl (lv_at hl 3 rfl) ?_
                    refine zalz hx hb hK hP 14 3 rfl rfl (j := n - 1 - k) (by omega) (by decide) dX3_layWays_181 ?_
                    refine zti (show (zF E2) (n - 1 - k) = zB (E2 (n - 1 - k)) from rfl) ?_
                    refine zi_neB (tgt := 216) hx hb dX3_layWays_182 (by decide) (fun c_182 => ?_) (fun c_182 => ?_)
                    · refine lv_iconst (v := nI 1) hx hb dX3_layWays_216 (by decide) ?_
                      refine lv_goto (tgt := 221) hx hb dX3_layWays_217 (by decide) ?_
                      exact jn_176 _ ((zB_t (let ⟨y, h8, h9⟩ := hI_160.2.2.mp c_182; ⟨y, by omega, h9⟩)).symm)
                    · refine lv_aload_n hx hb dX3_layWays_185 rfl (lv_at hl 0 rfl) ?_
                      refine lv_iload hx hb dX3_layWays_186 (lv_at hl 4 rfl) ?_
                      refine lv_iload_n hx hb dX3_layWays_188 rfl (lv_at hl 1 rfl) ?_
                      refine lv_iload_n hx hb dX3_layWays_189 rfl (lv_at hl 3 rfl) ?_
                      refine lv_iload_n hx hb dX3_layWays_190 rfl (lv_at hl 2 rfl) ?_
                      have hQ_191 : va_P g.1 zCL [(ad 0, .inr (3, mO ad fi)), (ad 3, .inl (g.2 0, 320, .inl (cn 3))), (ad 4, .inl (g.2 0, 44, .inl (cn 4)))] _ := hP.sub [0, 3, 4] rfl
                      rw [show _ = _ from hc3] at hQ_191
                      rw [show _ = _ from hc4] at hQ_191
                      refine vp_callSi (W.runV (As := [.int (nI x), .int (nI r), .int (nI (n - 1 - k)), .int (nI n)]) (rest := [.int (nI (n - 1 - k)), .ref (ad 25)]) ⟨hx, hb, hml, hown, hts⟩ (m_X3_isImageAt l g ad fi it B hB x r (n - 1 - k) n (by omega) (by omega) (by omega) (by omega)) (cwV 4 hts (lw_V q1632 q1634 qs51 q69 q1635) rfl rfl rfl hdV_X3_isImageAt ⟨Nat.le_of_ble_eq_true rfl, Nat.le_of_ble_eq_true rfl⟩) (zpreV hK hN (va_recv hK hP (ci := 3) (q0 := 0) rfl rfl) hQ_191) rfl rfl hl.1 rfl (lv_room (Nat.le_of_ble_eq_true rfl)) dX3_layWays_191 ⟨Nat.le_of_ble_eq_true rfl, Nat.le_of_ble_eq_true rfl⟩) (fun r_191 hr_191 => ?_)
                      subst hr_191
                      refine zi_eqB (tgt := 220) hx hb dX3_layWays_194 (by decide) (fun c_194 => ?_) (fun c_194 => ?_)
                      · refine lv_iconst (v := nI 0) hx hb dX3_layWays_220 (by decide) ?_
                        have hno : ¬ ∃ y, y < x + 1 ∧ bimg B (fun j => it (40 * r + j)) y (n - 1 - k) n ∧ 0 < bV B (fun j => it (40 * r + j)) n (n - 1 - k + bil B y) := by
                          rintro ⟨y, h7, h8, h9⟩
                          by_cases q : y = x
                          · rw [q] at h8 h9
                            exact c_194 h8
                          · exact c_182 (hI_160.2.2.mpr ⟨y, by omega, h8, h9⟩)
                        exact jn_176 _ ((zB_f hno).symm)
                      · have hin := c_194.1
                        refine lv_aload_n hx hb dX3_layWays_197 rfl (lv_at hl 0 rfl) ?_
                        refine va_get (D := g.1) (ci := 3) (v := .ref (ad 25)) (C := RX3) (T := TX3) (N := 30) hx hb hts in_X3 hown hK hP 0 rfl rfl 25 (by decide) (hts _ q1322) (fun _ h9 => h9) rfl dX3_layWays_198 ?_
                        refine lv_iload_n hx hb dX3_layWays_201 rfl (lv_at hl 3 rfl) ?_
                        refine lv_aload_n hx hb dX3_layWays_202 rfl (lv_at hl 0 rfl) ?_
                        refine va_get (D := g.1) (ci := 3) (v := .ref (ad 4)) (C := RX3) (T := TX3) (N := 30) hx hb hts in_X3 hown hK hP 0 rfl rfl 4 (by decide) (hts _ q1301) (fun _ h9 => h9) rfl dX3_layWays_203 ?_
                        refine lv_iload hx hb dX3_layWays_206 (lv_at hl 4 rfl) ?_
                        have hQ_208 : va_P g.1 zCL [(ad 4, .inl (g.2 0, 44, .inl (cn 4)))] _ := hP.sub [4] rfl
                        rw [show _ = _ from hc4] at hQ_208
                        refine vp_callSi (W.runS (As := [.ref (ad 4), .int (nI x)]) (rest := [.int (nI (n - 1 - k)), .ref (ad 25), .int (nI (n - 1 - k)), .ref (ad 25)]) ⟨hx, hb, hml, hown, hts⟩ (m_X3_imageSize l g (ad 4) B x (by omega) (by first | assumption | omega | exact (hB.kd (by omega)).2)) (va_cwS 2 hts (lw_S q1539 q1540 q69 q1541) rfl rfl rfl hdS_X3_imageSize ⟨Nat.le_of_ble_eq_true rfl, Nat.le_of_ble_eq_true rfl⟩) (zpreS hK hN hQ_208) rfl rfl hl.1 rfl (lv_room (Nat.le_of_ble_eq_true rfl)) dX3_layWays_208 ⟨Nat.le_of_ble_eq_true rfl, Nat.le_of_ble_eq_true rfl⟩) (fun r_208 hr_208 => ?_)
                        subst hr_208
                        refine lv_iadd hx hb dX3_layWays_211 ?_
                        refine zti (nI_add (n - 1 - k) (bil B x)) ?_
                        refine zalz hx hb hK hP 14 3 rfl rfl (j := n - 1 - k + bil B x) (by omega) (by decide) dX3_layWays_212 ?_
                        refine zti (show (zF E2) (n - 1 - k + bil B x) = zB (E2 (n - 1 - k + bil B x)) from rfl) ?_
                        refine zi_eqB (tgt := 220) hx hb dX3_layWays_213 (by decide) (fun c_213 => ?_) (fun c_213 => ?_)
                        · refine lv_iconst (v := nI 0) hx hb dX3_layWays_220 (by decide) ?_
                          have hno : ¬ ∃ y, y < x + 1 ∧ bimg B (fun j => it (40 * r + j)) y (n - 1 - k) n ∧ 0 < bV B (fun j => it (40 * r + j)) n (n - 1 - k + bil B y) := by
                            rintro ⟨y, h7, h8, h9⟩
                            by_cases q : y = x
                            · rw [q] at h8 h9
                              exact c_213 ((hI_160.1 _ (by omega) h8.1).mpr h9)
                            · exact c_182 (hI_160.2.2.mpr ⟨y, by omega, h8, h9⟩)
                          exact jn_176 _ ((zB_f hno).symm)
                        · refine lv_iconst (v := nI 1) hx hb dX3_layWays_216 (by decide) ?_
                          refine lv_goto (tgt := 221) hx hb dX3_layWays_217 (by decide) ?_
                          exact jn_176 _ ((zB_t ⟨x, by omega, c_194, (hI_160.1 _ (by omega) (by have := c_194.1; omega)).mp c_213⟩).symm)
              · have hP : va_P g.1 zCL (mW g ad fi (va_up (va_up cn 24 (nF W1)) 25 (zF E1)) xl) _ := hP
                have hD : va_D (mA ad s.heap.size) (mW g ad fi (va_up (va_up cn 24 (nF W1)) 25 (zF E1)) xl) := hD
                exact ⟨E1, rfl, rfl, hP, hD, hS, lv_sub hl [1, 2, 3, 4, 0] rfl, ⟨hI_153.1, fun t h8 => hI_153.2 t (by omega), ⟨fun z => absurd z (hI_153.2 _ (by omega)), fun ⟨_, h8, _⟩ => absurd h8 (Nat.not_lt_zero _)⟩⟩⟩
            · obtain rfl : k = n := by omega
              refine zti (show _ = zdn 0 from by rw [Nat.sub_self]) ?_
              refine lv_if_lt (tgt := 234) hx hb dX3_layWays_154 (by decide) (fun c_154 => ?_) (fun c_154 => ?_)
              · exact W.vret hx hb hr (fun t ht hW => ⟨⟨(fi, va_up (va_up cn 24 (nF W1)) 25 (zF E1), xl), rfl, ⟨trivial, W1, E1, rfl, hW9, fun t ht => hI_153.1 t (by omega) ht⟩, by rw [ht]; exact hP, hD⟩, hS.F ht⟩) hS.2.2 dX3_layWays_234
              · exact absurd zdn_0 c_154
          · have hP : va_P g.1 zCL (mW g ad fi (va_up (va_up cn 24 (nF W1)) 25 (zF E0)) xl) _ := hP
            have hD : va_D (mA ad s.heap.size) (mW g ad fi (va_up (va_up cn 24 (nF W1)) 25 (zF E0)) xl) := hD
            exact ⟨E0, rfl, rfl, hP, hD, hS, lv_sub hl [1, 2, 3, 0] rfl, ⟨fun t h8 h9 => by rw [(hI_2 t (by omega)).2]; exact ⟨fun z => by rw [z, bV_n]; exact Nat.one_pos, fun _ => by omega⟩, fun t h8 => fun z => absurd ((hI_2 t (by omega)).2.mp z) (by omega)⟩⟩
        · refine lv_iconst (v := nI 0) hx hb dX3_layWays_51 (by decide) ?_
          refine lv_istore (lv' := [(4, .int (nI 0)), (0, .ref (ad 0)), (1, .int (nI r)), (2, .int (nI n)), (3, .int (nI k))]) hx hb dX3_layWays_52 hl (by decide) rfl (fun ls hl => ?_)
          refine zloopW (head := 54) (B 0) (fun x H locs cells slots ls => ∃ (W2 : Nat → Nat), cells = 0 ∧ slots = 0 ∧ va_P g.1 zCL (mW g ad fi (va_up (va_up cn 24 (nF W2)) 25 (zF E0)) xl) H ∧ va_D (mA ad s.heap.size) (mW g ad fi (va_up (va_up cn 24 (nF W2)) 25 (zF E0)) xl) ∧ va_S (mA ad s.heap.size) s.heap H locs ∧ lv_has ls 6 [(0, .ref (ad 0)), (1, .int (nI r)), (2, .int (nI n)), (3, .int (nI k)), (4, .int (nI x))] ∧ (∀ t, t ≤ n → W2 t = min 1000000 (bAx B (fun j => it (40 * r + j)) n k x t))) (fun x hv_x ih_54 H locs cells slots ls hI => ?_) 0 (Nat.zero_le _) ?_
          · obtain ⟨W2, rfl, rfl, hP, hD, hS, hl, hI_54⟩ := hI
            refine lv_iload hx hb dX3_layWays_54 (lv_at hl 4 rfl) ?_
            refine lv_aload_n hx hb dX3_layWays_56 rfl (lv_at hl 0 rfl) ?_
            refine va_get (D := g.1) (ci := 3) (v := .ref (ad 4)) (C := RX3) (T := TX3) (N := 30) hx hb hts in_X3 hown hK hP 0 rfl rfl 4 (by decide) (hts _ q1301) (fun _ h9 => h9) rfl dX3_layWays_57 ?_
            refine lv_iconst (v := nI 0) hx hb dX3_layWays_60 (by decide) ?_
            refine zald hx hb hK hP 4 0 rfl rfl (j := 0) (by omega) (by decide) dX3_layWays_61 ?_
            refine zti (congrFun hc4 _) ?_
            refine zti (show (nF B) 0 = nI (B 0) from rfl) ?_
            refine zc_ge (tgt := 143) hx hb (by omega) (by omega) dX3_layWays_62 (by decide) (fun c_62 => ?_) (fun c_62 => ?_)
            · obtain rfl : B 0 = x := by omega
              refine lv_iinc (v := nI (k + 1)) (lv' := [(3, .int (nI (k + 1))), (0, .ref (ad 0)), (1, .int (nI r)), (2, .int (nI n)), (4, .int (nI (B 0)))]) hx hb dX3_layWays_143 hl (k := 3) rfl (nI_add k 1) (by decide) rfl (fun ls hl => ?_)
              refine lv_goto (tgt := 46) hx hb dX3_layWays_146 (by decide) ?_
              have hJ : ∀ t, t ≤ n → W2 t = min 1000000 (bA B (fun j => it (40 * r + j)) n (k + 1) t) := hI_54
              exact ih_46 (by omega) _ _ _ _ _ ⟨W2, rfl, rfl, hP, hD, hS, lv_sub hl [1, 2, 3, 0] rfl, hJ⟩
            · have hx0 : x < B 0 := by omega
              have hxl := hB.il hx0
              have hxk := (hB.kd hx0).2
              have hxw := (hB.wl hx0).2
              refine lv_iload_n hx hb dX3_layWays_65 rfl (lv_at hl 3 rfl) ?_
              refine lv_aload_n hx hb dX3_layWays_66 rfl (lv_at hl 0 rfl) ?_
              refine va_get (D := g.1) (ci := 3) (v := .ref (ad 4)) (C := RX3) (T := TX3) (N := 30) hx hb hts in_X3 hown hK hP 0 rfl rfl 4 (by decide) (hts _ q1301) (fun _ h9 => h9) rfl dX3_layWays_67 ?_
              refine lv_iload hx hb dX3_layWays_70 (lv_at hl 4 rfl) ?_
              have hQ_72 : va_P g.1 zCL [(ad 4, .inl (g.2 0, 44, .inl (cn 4)))] _ := hP.sub [4] rfl
              rw [show _ = _ from hc4] at hQ_72
              refine vp_callSi (W.runS (As := [.ref (ad 4), .int (nI x)]) (rest := [.int (nI k)]) ⟨hx, hb, hml, hown, hts⟩ (m_X3_imageSize l g (ad 4) B x (by omega) (by first | assumption | omega | exact (hB.kd (by omega)).2)) (va_cwS 2 hts (lw_S q1539 q1540 q69 q1541) rfl rfl rfl hdS_X3_imageSize ⟨Nat.le_of_ble_eq_true rfl, Nat.le_of_ble_eq_true rfl⟩) (zpreS hK hN hQ_72) rfl rfl hl.1 rfl (lv_room (Nat.le_of_ble_eq_true rfl)) dX3_layWays_72 ⟨Nat.le_of_ble_eq_true rfl, Nat.le_of_ble_eq_true rfl⟩) (fun r_72 hr_72 => ?_)
              subst hr_72
              refine lv_iadd hx hb dX3_layWays_75 ?_
              refine zti (nI_add k (bil B x)) ?_
              refine lv_istore (lv' := [(5, .int (nI (k + bil B x))), (0, .ref (ad 0)), (1, .int (nI r)), (2, .int (nI n)), (3, .int (nI k)), (4, .int (nI x))]) hx hb dX3_layWays_76 hl (by decide) rfl (fun ls hl => ?_)
              refine lv_aload_n hx hb dX3_layWays_78 rfl (lv_at hl 1 rfl) ?_
              refine lv_iload hx hb dX3_layWays_79 (lv_at hl 5 rfl) ?_
              refine lv_iload_n hx hb dX3_layWays_81 rfl (lv_at hl 2 rfl) ?_
              refine lv_iload_n hx hb dX3_layWays_82 rfl (lv_at hl 4 rfl) ?_
              refine lv_iload_n hx hb dX3_layWays_83 rfl (lv_at hl 3 rfl) ?_
              have hQ_84 : va_P g.1 zCL [(ad 0, .inr (3, mO ad fi)), (ad 3, .inl (g.2 0, 320, .inl (cn 3))), (ad 4, .inl (g.2 0, 44, .inl (cn 4)))] _ := hP.sub [0, 3, 4] rfl
              rw [show _ = _ from hc3] at hQ_84
              rw [show _ = _ from hc4] at hQ_84
              refine vp_callSi (W.runV (As := [.int (nI x), .int (nI r), .int (nI k), .int (nI n)]) (rest := []) ⟨hx, hb, hml, hown, hts⟩ (m_X3_isImageAt l g ad fi it B hB x r k n (by omega) (by omega) (by omega) (by omega)) (cwV 4 hts (lw_V q1632 q1634 qs51 q69 q1635) rfl rfl rfl hdV_X3_isImageAt ⟨Nat.le_of_ble_eq_true rfl, Nat.le_of_ble_eq_true rfl⟩) (zpreV hK hN (va_recv hK hP (ci := 3) (q0 := 0) rfl rfl) hQ_84) rfl rfl hl.1 rfl (lv_room (Nat.le_of_ble_eq_true rfl)) dX3_layWays_84 ⟨Nat.le_of_ble_eq_true rfl, Nat.le_of_ble_eq_true rfl⟩) (fun r_84 hr_84 => ?_)
              subst hr_84
              refine zi_eqB (tgt := 137) hx hb dX3_layWays_87 (by decide) (fun c_87 => ?_) (fun c_87 => ?_)
              · refine lv_iinc (v := nI (x + 1)) (lv' := [(4, .int (nI (x + 1))), (5, .int (nI (k + bil B x))), (0, .ref (ad 0)), (1, .int (nI r)), (2, .int (nI n)), (3, .int (nI k))]) hx hb dX3_layWays_137 hl (k := 5) rfl (nI_add x 1) (by decide) rfl (fun ls hl => ?_)
                refine lv_goto (tgt := 54) hx hb dX3_layWays_140 (by decide) ?_
                have hJ : ∀ t, t ≤ n → W2 t = min 1000000 (bAx B (fun j => it (40 * r + j)) n k (x + 1) t) := fun t ht => by rw [hI_54 t ht, bA_no (by assumption)]
                exact ih_54 (by omega) _ _ _ _ _ ⟨W2, rfl, rfl, hP, hD, hS, lv_sub hl [2, 3, 4, 5, 0] rfl, hJ⟩
              · have hin := c_87.1
                have hw1 := hI_54 (k + bil B x) hin
                have hw2 := hI_54 k (by omega)
                refine lv_aload_n hx hb dX3_layWays_90 rfl (lv_at hl 1 rfl) ?_
                refine va_get (D := g.1) (ci := 3) (v := .ref (ad 24)) (C := RX3) (T := TX3) (N := 30) hx hb hts in_X3 hown hK hP 0 rfl rfl 24 (by decide) (hts _ q1321) (fun _ h9 => h9) rfl dX3_layWays_91 ?_
                refine lv_iload hx hb dX3_layWays_94 (lv_at hl 0 rfl) ?_
                refine zjoin (ls := ls) (α := Int32) (fun v9 => v9 = nI (min 1000000 (W2 (k + bil B x) + W2 k))) (fun v9 => .int v9 :: [.int (nI (k + bil B x)), .ref (ad 24)]) 136 (fun v9 hv => ?_) (fun jn_96 => ?_)
                · subst hv
                  refine zast (f := nF W2) hx hb hK hP hD hS 13 0 rfl rfl (j := k + bil B x) (by omega) (by decide) dX3_layWays_136 (fun H locs hP hD hS => ?_)
                  rw [nF_up] at hP hD
                  have hP : va_P g.1 zCL (mW g ad fi (va_up (va_up cn 24 (nF (va_up W2 (k + bil B x) (min 1000000 (W2 (k + bil B x) + W2 k))))) 25 (zF E0)) xl) _ := hP
                  have hD : va_D (mA ad s.heap.size) (mW g ad fi (va_up (va_up cn 24 (nF (va_up W2 (k + bil B x) (min 1000000 (W2 (k + bil B x) + W2 k))))) 25 (zF E0)) xl) := hD
                  refine lv_iinc (v := nI (x + 1)) (lv' := [(4, .int (nI (x + 1))), (5, .int (nI (k + bil B x))), (0, .ref (ad 0)), (1, .int (nI r)), (2, .int (nI n)), (3, .int (nI k))]) hx hb dX3_layWays_137 hl (k := 5) rfl (nI_add x 1) (by decide) rfl (fun ls hl => ?_)
                  refine lv_goto (tgt := 54) hx hb dX3_layWays_140 (by decide) ?_
                  have hJ := bA_up hB hx0 hI_54 (by omega) c_87
                  exact ih_54 (by omega) _ _ _ _ _ ⟨va_up W2 (k + bil B x) (min 1000000 (W2 (k + bil B x) + W2 k)), rfl, rfl, hP, hD, hS, lv_sub hl [2, 3, 4, 5, 0] rfl, hJ⟩
                · refine lv_aload_n hx hb dX3_layWays_96 rfl (lv_at hl 1 rfl) ?_
                  refine va_get (D := g.1) (ci := 3) (v := .ref (ad 24)) (C := RX3) (T := TX3) (N := 30) hx hb hts in_X3 hown hK hP 0 rfl rfl 24 (by decide) (hts _ q1321) (fun _ h9 => h9) rfl dX3_layWays_97 ?_
                  refine lv_iload hx hb dX3_layWays_100 (lv_at hl 0 rfl) ?_
                  refine zald hx hb hK hP 13 0 rfl rfl (j := k + bil B x) (by omega) (by decide) dX3_layWays_102 ?_
                  refine zti (show (nF W2) (k + bil B x) = nI (W2 (k + bil B x)) from rfl) ?_
                  refine lv_aload_n hx hb dX3_layWays_103 rfl (lv_at hl 1 rfl) ?_
                  refine va_get (D := g.1) (ci := 3) (v := .ref (ad 24)) (C := RX3) (T := TX3) (N := 30) hx hb hts in_X3 hown hK hP 0 rfl rfl 24 (by decide) (hts _ q1321) (fun _ h9 => h9) rfl dX3_layWays_104 ?_
                  refine lv_iload_n hx hb dX3_layWays_107 rfl (lv_at hl 4 rfl) ?_
                  refine zald hx hb hK hP 13 0 rfl rfl (j := k) (by omega) (by decide) dX3_layWays_108 ?_
                  refine zti (show (nF W2) k = nI (W2 k) from rfl) ?_
                  refine lv_iadd hx hb dX3_layWays_109 ?_
                  refine zti (nI_add (W2 (k + bil B x)) (W2 k)) ?_
                  refine lv_ldcw hx hb hown (hts _ q1636) dX3_layWays_110 ?_
                  refine zti (show (1000000 : Int32) = nI 1000000 from rfl) ?_
                  refine zc_le (tgt := 122) hx hb (by omega) (by omega) dX3_layWays_113 (by decide) (fun c_113 => ?_) (fun c_113 => ?_)
                  · refine lv_aload_n hx hb dX3_layWays_122 rfl (lv_at hl 1 rfl) ?_
                    refine va_get (D := g.1) (ci := 3) (v := .ref (ad 24)) (C := RX3) (T := TX3) (N := 30) hx hb hts in_X3 hown hK hP 0 rfl rfl 24 (by decide) (hts _ q1321) (fun _ h9 => h9) rfl dX3_layWays_123 ?_
                    refine lv_iload hx hb dX3_layWays_126 (lv_at hl 0 rfl) ?_
                    refine zald hx hb hK hP 13 0 rfl rfl (j := k + bil B x) (by omega) (by decide) dX3_layWays_128 ?_
                    refine zti (show (nF W2) (k + bil B x) = nI (W2 (k + bil B x)) from rfl) ?_
                    refine lv_aload_n hx hb dX3_layWays_129 rfl (lv_at hl 1 rfl) ?_
                    refine va_get (D := g.1) (ci := 3) (v := .ref (ad 24)) (C := RX3) (T := TX3) (N := 30) hx hb hts in_X3 hown hK hP 0 rfl rfl 24 (by decide) (hts _ q1321) (fun _ h9 => h9) rfl dX3_layWays_130 ?_
                    refine lv_iload_n hx hb dX3_layWays_133 rfl (lv_at hl 4 rfl) ?_
                    refine zald hx hb hK hP 13 0 rfl rfl (j := k) (by omega) (by decide) dX3_layWays_134 ?_
                    refine zti (show (nF W2) k = nI (W2 k) from rfl) ?_
                    refine lv_iadd hx hb dX3_layWays_135 ?_
                    refine zti (nI_add (W2 (k + bil B x)) (W2 k)) ?_
                    exact jn_96 _ ((congrArg nI (show min 1000000 (W2 (k + bil B x) + W2 k) = W2 (k + bil B x) + W2 k by omega)).symm)
                  · refine lv_ldcw hx hb hown (hts _ q1636) dX3_layWays_116 ?_
                    refine zti (show (1000000 : Int32) = nI 1000000 from rfl) ?_
                    refine lv_goto (tgt := 136) hx hb dX3_layWays_119 (by decide) ?_
                    exact jn_96 _ ((congrArg nI (show min 1000000 (W2 (k + bil B x) + W2 k) = 1000000 by omega)).symm)
          · have hP : va_P g.1 zCL (mW g ad fi (va_up (va_up cn 24 (nF W1)) 25 (zF E0)) xl) _ := hP
            have hD : va_D (mA ad s.heap.size) (mW g ad fi (va_up (va_up cn 24 (nF W1)) 25 (zF E0)) xl) := hD
            exact ⟨W1, rfl, rfl, hP, hD, hS, lv_sub hl [1, 2, 3, 4, 0] rfl, hI_46⟩
      · have hP : va_P g.1 zCL (mW g ad fi (va_up (va_up cn 24 (nF W0)) 25 (zF E0)) xl) _ := hP
        have hD : va_D (mA ad s.heap.size) (mW g ad fi (va_up (va_up cn 24 (nF W0)) 25 (zF E0)) xl) := hD
        exact ⟨W0, rfl, rfl, hP, hD, hS, lv_sub hl [1, 2, 3, 0] rfl, (fun t ht => by rw [(hI_2 t (by omega)).1]; show _ = min 1000000 (zif (t = 0) 1 0); exact zif_ind (fun z => z = min 1000000 z) rfl rfl)⟩
    · refine lv_aload_n hx hb dX3_layWays_7 rfl (lv_at hl 0 rfl) ?_
      refine va_get (D := g.1) (ci := 3) (v := .ref (ad 24)) (C := RX3) (T := TX3) (N := 30) hx hb hts in_X3 hown hK hP 0 rfl rfl 24 (by decide) (hts _ q1321) (fun _ h9 => h9) rfl dX3_layWays_8 ?_
      refine lv_iload_n hx hb dX3_layWays_11 rfl (lv_at hl 3 rfl) ?_
      refine zjoin (ls := ls) (α := Int32) (fun v9 => v9 = nI (zif (k = 0) 1 0)) (fun v9 => .int v9 :: [.int (nI k), .ref (ad 24)]) 21 (fun v9 hv => ?_) (fun jn_12 => ?_)
      · subst hv
        refine zast (f := nF W0) hx hb hK hP hD hS 13 0 rfl rfl (j := k) (by omega) (by decide) dX3_layWays_21 (fun H locs hP hD hS => ?_)
        rw [nF_up] at hP hD
        have hP : va_P g.1 zCL (mW g ad fi (va_up (va_up cn 24 (nF (va_up W0 k (zif (k = 0) 1 0)))) 25 (zF E0)) xl) _ := hP
        have hD : va_D (mA ad s.heap.size) (mW g ad fi (va_up (va_up cn 24 (nF (va_up W0 k (zif (k = 0) 1 0)))) 25 (zF E0)) xl) := hD
        refine lv_aload_n hx hb dX3_layWays_22 rfl (lv_at hl 0 rfl) ?_
        refine va_get (D := g.1) (ci := 3) (v := .ref (ad 25)) (C := RX3) (T := TX3) (N := 30) hx hb hts in_X3 hown hK hP 0 rfl rfl 25 (by decide) (hts _ q1322) (fun _ h9 => h9) rfl dX3_layWays_23 ?_
        refine lv_iload_n hx hb dX3_layWays_26 rfl (lv_at hl 3 rfl) ?_
        refine zjoin (ls := ls) (α := Int32) (fun v9 => v9 = zB (k = n)) (fun v9 => .int v9 :: [.int (nI k), .ref (ad 25)]) 37 (fun v9 hv => ?_) (fun jn_27 => ?_)
        · subst hv
          refine zasz (f := zF E0) hx hb hK hP hD hS 14 3 rfl rfl (j := k) (by omega) (by decide) dX3_layWays_37 (fun H locs hP hD hS => ?_)
          rw [zF_up] at hP hD
          have hP : va_P g.1 zCL (mW g ad fi (va_up (va_up cn 24 (nF (va_up W0 k (zif (k = 0) 1 0)))) 25 (zF (va_up E0 k (k = n)))) xl) _ := hP
          have hD : va_D (mA ad s.heap.size) (mW g ad fi (va_up (va_up cn 24 (nF (va_up W0 k (zif (k = 0) 1 0)))) 25 (zF (va_up E0 k (k = n)))) xl) := hD
          refine lv_iinc (v := nI (k + 1)) (lv' := [(3, .int (nI (k + 1))), (0, .ref (ad 0)), (1, .int (nI r)), (2, .int (nI n))]) hx hb dX3_layWays_38 hl (k := 3) rfl (nI_add k 1) (by decide) rfl (fun ls hl => ?_)
          refine lv_goto (tgt := 2) hx hb dX3_layWays_41 (by decide) ?_
          have hJ : ∀ t, t < k + 1 → va_up W0 k (zif (k = 0) 1 0) t = zif (t = 0) 1 0 ∧ (va_up E0 k (k = n) t ↔ t = n) := by
            intro t ht
            by_cases q : t = k
            · rw [q, va_up_self, va_up_self]; exact ⟨rfl, Iff.rfl⟩
            · rw [va_up_ne _ _ q, va_up_ne _ _ q]; exact hI_2 t (by omega)
          exact ih_2 (by omega) _ _ _ _ _ ⟨va_up W0 k (zif (k = 0) 1 0), va_up E0 k (k = n), rfl, rfl, hP, hD, hS, lv_sub hl [1, 2, 3, 0] rfl, hJ⟩
        · refine lv_iload_n hx hb dX3_layWays_27 rfl (lv_at hl 3 rfl) ?_
          refine lv_iload_n hx hb dX3_layWays_28 rfl (lv_at hl 2 rfl) ?_
          refine zc_ne (tgt := 36) hx hb (by omega) (by omega) dX3_layWays_29 (by decide) (fun c_29 => ?_) (fun c_29 => ?_)
          · refine lv_iconst (v := nI 0) hx hb dX3_layWays_36 (by decide) ?_
            exact jn_27 _ ((zB_f c_29).symm)
          · refine lv_iconst (v := nI 1) hx hb dX3_layWays_32 (by decide) ?_
            refine lv_goto (tgt := 37) hx hb dX3_layWays_33 (by decide) ?_
            exact jn_27 _ ((zB_t c_29).symm)
      · refine lv_iload_n hx hb dX3_layWays_12 rfl (lv_at hl 3 rfl) ?_
        refine zi_ne (tgt := 20) hx hb (by omega) dX3_layWays_13 (by decide) (fun c_13 => ?_) (fun c_13 => ?_)
        · refine lv_iconst (v := nI 0) hx hb dX3_layWays_20 (by decide) ?_
          exact jn_12 _ ((congrArg nI (zif_f c_13)).symm)
        · refine lv_iconst (v := nI 1) hx hb dX3_layWays_16 (by decide) ?_
          refine lv_goto (tgt := 21) hx hb dX3_layWays_17 (by decide) ?_
          exact jn_12 _ ((congrArg nI (zif_t c_13)).symm)
  · rw [mW_up (cn := cn) (k := 24) (f := nF V) (hc24)] at hP
    rw [mW_up (cn := cn) (k := 24) (f := nF V) (hc24)] at hD
    rw [mW_up (cn := va_up cn 24 (nF V)) (k := 25) (f := zF E) (hc25)] at hP
    rw [mW_up (cn := va_up cn 24 (nF V)) (k := 25) (f := zF E) (hc25)] at hD
    have hP : va_P g.1 zCL (mW g ad fi (va_up (va_up cn 24 (nF V)) 25 (zF E)) xl) _ := hP
    have hD : va_D (mA ad s.heap.size) (mW g ad fi (va_up (va_up cn 24 (nF V)) 25 (zF E)) xl) := hD
    exact ⟨V, E, rfl, rfl, hP, hD, hS, lv_sub hl [1, 2, 3, 0] rfl, fun t ht => absurd ht (Nat.not_lt_zero _)⟩

set_option maxHeartbeats 4000000 in
set_option maxRecDepth 100000 in
theorem m_X3_back (l : Launch) (g : zG) (ad : Nat → Nat) (fi : Nat → Int32) (cn : Nat → Nat → Int32) (xl : Nat → Nat → Int64) (sz : Nat) (S : zS) (hM : MR S fi cn) (hX : MX fi cn xl) (hI : SI S) (r2 n2 w2 : Int32) : Met l yX3_back (ws_ yX3_back cX3_back 7 (some .int)) ({ frames := 4, cells := 0, slots := 0, locals := 96 }) (zPc g [.ref (ad 0), .int r2, .int n2, .int w2] (mH g ad fi cn xl sz)) (va_Qi (fun (r9 : Int32) u => r9 = (opBack S r2 n2 w2 ).1 ∧ MR (opBack S r2 n2 w2 ).2 u.1 u.2.1 ∧ MX u.1 u.2.1 u.2.2) (mB g ad sz) (mA ad sz)) 0 0 (mA ad sz) := by
  refine Met.ofW (cc := cX3_back) (maxL := 7) (ret := (some .int)) (by decide) rfl ?_
  intro p e s m args below meth c s₁ B0 hml hv
  obtain ⟨rfl, ⟨hK, hN⟩, hsz, hP, hD⟩ := hv
  have hx := B0.exec
  have hb := B0.bytes
  have hr := B0.returns
  have hts := atoms_spec (ws := ws_ yX3_back cX3_back 7 (some .int)) B0.pre
  have hts : ∀ w ∈ lw_all, w.before _ s = true := fun w h => hts w (List.mem_cons_of_mem _ h)
  have hown : s.vm.findClass RX3 = some m.cls := findClass_of_methodNamed B0.named
  have hlocks := B0.notSynchronized
  subst hsz
  have hD := mD_self s.heap.size hD
  have hS : va_S (mA ad s.heap.size) s.heap s.heap [] := va_S.rf
  have hl := lv_entry ([.ref (ad 0), .int r2, .int n2, .int w2]) (n := 7) (Nat.le_of_ble_eq_true rfl)
  rw [lg_entry_eq]
  generalize (lg_sl ([.ref (ad 0), .int r2, .int n2, .int w2]) ++ List.replicate (7 - (lg_sl ([.ref (ad 0), .int r2, .int n2, .int w2])).length) Slot.unset).toArray = ls at hl ⊢
  have hl : lv_has ls 7 [(0, .ref (ad 0)), (1, .int r2), (2, .int n2), (3, .int w2)] := hl
  obtain ⟨hf0, hf8, hf12, hf19, hf29, hc1, hc2, hc3, hc4, hc7, hc11, hc26, hc27, hc28⟩ := hM
  obtain ⟨F5, F6, F9, F10, F24, E25, N21, N22, b23, hc5, hc6, hc9, hc10, hc24, hc25, hc21, hc22, hf23⟩ := hX
  have hB : bOK (S.2.1 4) := hI.1
  have h0 : S.2.1 4 0 ≤ 4 := hB.n4
  have h3 : S.2.1 4 3 ≤ 8 := hB.r8
  have hac := hI.2.2.1
  have hta := hI.2.2.2.1
  have hmn := hI.2.2.2.2.2.2.1
  have htn := hI.2.2.2.2.2.1
  refine lv_aload_n hx hb dX3_back_0 rfl (lv_at hl 0 rfl) ?_
  have hQ_1 : va_P g.1 zCL [(ad 0, .inr (3, mO ad fi)), (ad 4, .inl (g.2 0, 44, .inl (cn 4)))] _ := hP.sub [0, 4] rfl
  rw [show _ = _ from hc4] at hQ_1
  refine vp_callSi (W.runV (As := []) (rest := []) ⟨hx, hb, hml, hown, hts⟩ (m_X3_isThere l g ad fi (S.2.1 4) hB  ) (cwV 0 hts (lw_V q1517 q1519 qs43 q69 q1520) rfl rfl rfl hdV_X3_isThere ⟨Nat.le_of_ble_eq_true rfl, Nat.le_of_ble_eq_true rfl⟩) (zpreV hK hN (va_recv hK hP (ci := 3) (q0 := 0) rfl rfl) hQ_1) rfl rfl hl.1 rfl (lv_room (Nat.le_of_ble_eq_true rfl)) dX3_back_1 ⟨Nat.le_of_ble_eq_true rfl, Nat.le_of_ble_eq_true rfl⟩) (fun r_1 hr_1 => ?_)
  subst hr_1
  refine zi_neB (tgt := 10) hx hb dX3_back_4 (by decide) (fun c_4 => ?_) (fun c_4 => ?_)
  · refine lv_iload_n hx hb dX3_back_10 rfl (lv_at hl 1 rfl) ?_
    refine vp_callSi (W.runS (As := [.int r2]) (rest := []) ⟨hx, hb, hml, hown, hts⟩ (m_X3_isRow l g r2) (va_cwS 1 hts (lw_S q1393 q1394 q69 q1395) rfl rfl rfl hdS_X3_isRow ⟨Nat.le_of_ble_eq_true rfl, Nat.le_of_ble_eq_true rfl⟩) (zpreS hK hN trivial) rfl rfl hl.1 rfl (lv_room (Nat.le_of_ble_eq_true rfl)) dX3_back_11 ⟨Nat.le_of_ble_eq_true rfl, Nat.le_of_ble_eq_true rfl⟩) (fun r_11 hr_11 => ?_)
    subst hr_11
    refine zi_eqB (tgt := 34) hx hb dX3_back_14 (by decide) (fun c_14 => ?_) (fun c_14 => ?_)
    · refine lv_ldc hx hb hown (hts _ q1401) dX3_back_34 ?_
      exact W.iret (v := -1000001) hx hb hr (fun t ht hW => ⟨⟨-1000001, (fi, cn, xl), rfl, (by unfold opBack; rw [zif_t c_4, zif_f c_14]; exact ⟨rfl, ⟨hf0, hf8, hf12, hf19, hf29, hc1, hc2, hc3, hc4, hc7, hc11, hc26, hc27, hc28⟩, ⟨_, _, _, _, _, _, _, _, _, hc5, hc6, hc9, hc10, hc24, hc25, hc21, hc22, hf23⟩⟩), by rw [ht]; exact hP, hD⟩, hS.F ht⟩) hS.2.2 dX3_back_36
    · refine lv_iload_n hx hb dX3_back_17 rfl (lv_at hl 2 rfl) ?_
      refine lv_i2l hx hb dX3_back_18 rfl ?_
      refine lv_lconst (v := lN 1) hx hb dX3_back_19 (by decide) ?_
      refine lv_ldc2 hx hb hown (hts _ q1627) dX3_back_20 ?_
      refine ztl (show (40 : Int64) = lN 40 from rfl) ?_
      refine vp_callSi (W.runS (As := [.long n2.toInt64, .long (lN 1), .long (lN 40)]) (rest := []) ⟨hx, hb, hml, hown, hts⟩ (m_X3_in l g n2.toInt64 (lN 1) (lN 40)) (va_cwS 3 hts (lw_S q1397 q1398 q69 q1399) rfl rfl rfl hdS_X3_in ⟨Nat.le_of_ble_eq_true rfl, Nat.le_of_ble_eq_true rfl⟩) (zpreS hK hN trivial) rfl rfl hl.1 rfl (lv_room (Nat.le_of_ble_eq_true rfl)) dX3_back_23 ⟨Nat.le_of_ble_eq_true rfl, Nat.le_of_ble_eq_true rfl⟩) (fun r_23 hr_23 => ?_)
      subst hr_23
      refine zti (show _ = zB (zIn n2 1 40) from zB_c (zIn_l n2 (by omega) (by omega))) ?_
      refine zi_eqB (tgt := 34) hx hb dX3_back_26 (by decide) (fun c_26 => ?_) (fun c_26 => ?_)
      · refine lv_ldc hx hb hown (hts _ q1401) dX3_back_34 ?_
        exact W.iret (v := -1000001) hx hb hr (fun t ht hW => ⟨⟨-1000001, (fi, cn, xl), rfl, (by unfold opBack; rw [zif_t c_4, zif_t c_14, zif_f c_26]; exact ⟨rfl, ⟨hf0, hf8, hf12, hf19, hf29, hc1, hc2, hc3, hc4, hc7, hc11, hc26, hc27, hc28⟩, ⟨_, _, _, _, _, _, _, _, _, hc5, hc6, hc9, hc10, hc24, hc25, hc21, hc22, hf23⟩⟩), by rw [ht]; exact hP, hD⟩, hS.F ht⟩) hS.2.2 dX3_back_36
      · refine lv_iload_n hx hb dX3_back_29 rfl (lv_at hl 3 rfl) ?_
        refine lv_iconst (v := -1) hx hb dX3_back_30 (by decide) ?_
        refine lv_icmp_ge (tgt := 37) hx hb dX3_back_31 (by decide) (fun c_31 => ?_) (fun c_31 => ?_)
        · obtain ⟨r, rfl, hu_r, hv_r⟩ := zIn_ex c_14 (by omega)
          obtain ⟨n, rfl, hu_n, hv_n⟩ := zIn_ex c_26 (by omega)
          have hmr := hmn r (by omega)
          refine lv_aload_n hx hb dX3_back_37 rfl (lv_at hl 0 rfl) ?_
          refine lv_iload_n hx hb dX3_back_38 rfl (lv_at hl 1 rfl) ?_
          refine lv_iload_n hx hb dX3_back_39 rfl (lv_at hl 2 rfl) ?_
          have hle_40 := hS.1
          refine va_calli (va_runV (As := [.int (nI r), .int (nI n)]) (rest := []) ⟨hx, hb, hml, hown, hts⟩ (m_X3_lacksLetters l g ad fi cn xl _ (S.2.2.1 1) (S.2.1 2) hc1 hc2 r n (by omega) (by omega) (by omega) (S.2.2.1 3) (S.2.1 4) hc3 hc4 hB) (cwV 2 hts (lw_V q1485 q1487 qs40 q69 q1488) rfl rfl rfl hdV_X3_lacksLetters ⟨Nat.le_of_ble_eq_true rfl, Nat.le_of_ble_eq_true rfl⟩) (zpreV hK hN (va_recv hK hP (ci := 3) (q0 := 0) rfl rfl) ⟨rfl, hP, hD.weaken (fun _ _ _ _ => trivial)⟩) rfl rfl hl.1 rfl (lv_room (Nat.le_of_ble_eq_true rfl)) dX3_back_40 ⟨Nat.le_of_ble_eq_true rfl, Nat.le_of_ble_eq_true rfl⟩) hS (fun q _ h => mA_le hS.1 q h) (mA_le hS.1) (fun r_40 u t H locs ht hvm hw_40 hB hzz hkk hS => ?_)
          obtain ⟨hP, hD⟩ := hB
          rw [ht] at hP
          have hD := hD.weaken (fun _ _ _ h => mA_le hle_40 _ h)
          obtain ⟨rfl, rfl⟩ := hw_40
          have hP : va_P g.1 zCL (mW g ad (va_up fi 0 (nI (zll (S.2.2.1 1) (S.2.1 2) (S.2.2.1 3) ((S.2.1 4) 0) r n))) cn xl) _ := hP
          have hD : va_D (mA ad s.heap.size) (mW g ad (va_up fi 0 (nI (zll (S.2.2.1 1) (S.2.1 2) (S.2.2.1 3) ((S.2.1 4) 0) r n))) cn xl) := hD
          by_cases hll : zll (S.2.2.1 1) (S.2.1 2) (S.2.2.1 3) (S.2.1 4 0) r n = 0
          · refine zti (show _ = nI 0 from by rw [hll, zres_0]) ?_
            have hlts := (zll_0 hll).2
            refine lv_istore (lv' := [(4, .int (nI 0)), (0, .ref (ad 0)), (1, .int (nI r)), (2, .int (nI n)), (3, .int w2)]) hx hb dX3_back_43 hl (by decide) rfl (fun ls hl => ?_)
            refine lv_iload hx hb dX3_back_45 (lv_at hl 0 rfl) ?_
            refine zi_eq (tgt := 53) hx hb (by omega) dX3_back_47 (by decide) (fun c_47 => ?_) (fun c_47 => ?_)
            · refine lv_aload_n hx hb dX3_back_53 rfl (lv_at hl 1 rfl) ?_
              refine lv_iload_n hx hb dX3_back_54 rfl (lv_at hl 2 rfl) ?_
              refine lv_iload_n hx hb dX3_back_55 rfl (lv_at hl 3 rfl) ?_
              have hle_56 := hS.1
              refine va_callv (va_runV (As := [.int (nI r), .int (nI n)]) (rest := []) ⟨hx, hb, hml, hown, hts⟩ (m_X3_layWays l g ad (va_up fi 0 (nI (zll (S.2.2.1 1) (S.2.1 2) (S.2.2.1 3) ((S.2.1 4) 0) r n))) cn xl _ (S.2.1 4) F24 E25 (S.2.2.1 3) hc4 hc24 hc25 hc3 hB r n (by omega) (by omega) (by omega)) (cwV 2 hts (lw_V q1628 q1630 qs50 q69 q1631) rfl rfl rfl hdV_X3_layWays ⟨Nat.le_of_ble_eq_true rfl, Nat.le_of_ble_eq_true rfl⟩) (zpreV hK hN (va_recv hK hP (ci := 3) (q0 := 0) rfl rfl) ⟨rfl, hP, hD.weaken (fun _ _ _ _ => trivial)⟩) rfl rfl hl.1 rfl (lv_room (Nat.le_of_ble_eq_true rfl)) dX3_back_56 ⟨Nat.le_of_ble_eq_true rfl, Nat.le_of_ble_eq_true rfl⟩) hS (fun q _ h => mA_le hS.1 q h) (mA_le hS.1) (fun u t H locs ht hvm hw_56 hB hzz hkk hS => ?_)
              obtain ⟨hP, hD⟩ := hB
              rw [ht] at hP
              have hD := hD.weaken (fun _ _ _ h => mA_le hle_56 _ h)
              obtain ⟨_, Wu, Eu, rfl, hWn, hEn⟩ := hw_56
              have hP : va_P g.1 zCL (mW g ad (va_up fi 0 (nI (zll (S.2.2.1 1) (S.2.1 2) (S.2.2.1 3) ((S.2.1 4) 0) r n))) (va_up (va_up cn 24 (nF Wu)) 25 (zF Eu)) xl) _ := hP
              have hD : va_D (mA ad s.heap.size) (mW g ad (va_up fi 0 (nI (zll (S.2.2.1 1) (S.2.1 2) (S.2.2.1 3) ((S.2.1 4) 0) r n))) (va_up (va_up cn 24 (nF Wu)) 25 (zF Eu)) xl) := hD
              refine lv_iload_n hx hb dX3_back_59 rfl (lv_at hl 4 rfl) ?_
              refine lv_iconst (v := -1) hx hb dX3_back_60 (by decide) ?_
              refine lv_icmp_eq (tgt := 73) hx hb dX3_back_61 (by decide) (fun c_61 => ?_) (fun c_61 => ?_)
              · refine lv_iload_n hx hb dX3_back_73 rfl (lv_at hl 4 rfl) ?_
                refine lv_iconst (v := -1) hx hb dX3_back_74 (by decide) ?_
                refine lv_icmp_ne (tgt := 87) hx hb dX3_back_75 (by decide) (fun c_75 => ?_) (fun c_75 => ?_)
                · exact absurd c_61 c_75
                · refine lv_aload_n hx hb dX3_back_78 rfl (lv_at hl 1 rfl) ?_
                  refine va_get (D := g.1) (ci := 3) (v := .ref (ad 24)) (C := RX3) (T := TX3) (N := 30) hx hb hts in_X3 hown hK hP 0 rfl rfl 24 (by decide) (hts _ q1321) (fun _ h9 => h9) rfl dX3_back_79 ?_
                  refine lv_iload_n hx hb dX3_back_82 rfl (lv_at hl 3 rfl) ?_
                  refine zald hx hb hK hP 13 0 rfl rfl (j := n) (by omega) (by decide) dX3_back_83 ?_
                  refine zti (show (nF Wu) n = nI (Wu n) from rfl) ?_
                  refine zti (show _ = nI (min 1000000 (bV (S.2.1 4) (fun q => S.2.2.1 3 (40 * r + q)) n 0)) from congrArg nI hWn) ?_
                  refine lv_goto (tgt := 89) hx hb dX3_back_84 (by decide) ?_
                  exact W.iret (v := nI (min 1000000 (bV (S.2.1 4) (fun q => S.2.2.1 3 (40 * r + q)) n 0))) hx hb hr (fun t ht hW => ⟨⟨nI (min 1000000 (bV (S.2.1 4) (fun q => S.2.2.1 3 (40 * r + q)) n 0)), (va_up fi 0 (nI (zll (S.2.2.1 1) (S.2.1 2) (S.2.2.1 3) ((S.2.1 4) 0) r n)), va_up (va_up cn 24 (nF Wu)) 25 (zF Eu), xl), rfl, (by unfold opBack; (try rw [zn_nI (n := r) (by omega)]); (try rw [zn_nI (n := n) (by omega)]); rw [zif_t c_4, zif_t c_14, zif_t c_26, zif_t c_31, zif_t hll, bback, zif_t c_61]; exact ⟨rfl, ⟨(congrArg nI hll), hf8, hf12, hf19, hf29, hc1, hc2, hc3, hc4, hc7, hc11, hc26, hc27, hc28⟩, ⟨_, _, _, _, _, _, _, _, _, hc5, hc6, hc9, hc10, rfl, rfl, hc21, hc22, hf23⟩⟩), by rw [ht]; exact hP, hD⟩, hS.F ht⟩) hS.2.2 dX3_back_89
              · refine lv_aload_n hx hb dX3_back_64 rfl (lv_at hl 1 rfl) ?_
                refine va_get (D := g.1) (ci := 3) (v := .ref (ad 25)) (C := RX3) (T := TX3) (N := 30) hx hb hts in_X3 hown hK hP 0 rfl rfl 25 (by decide) (hts _ q1322) (fun _ h9 => h9) rfl dX3_back_65 ?_
                refine lv_iconst (v := nI 0) hx hb dX3_back_68 (by decide) ?_
                refine zalz hx hb hK hP 14 3 rfl rfl (j := 0) (by omega) (by decide) dX3_back_69 ?_
                refine zti (show (zF Eu) 0 = zB (Eu 0) from rfl) ?_
                refine zi_neB (tgt := 90) hx hb dX3_back_70 (by decide) (fun c_70 => ?_) (fun c_70 => ?_)
                · obtain ⟨j, rfl, hn_j⟩ := zm1_ex c_31 c_61
                  have hp0 : 0 < bV (S.2.1 4) (fun q => S.2.2.1 3 (40 * r + q)) n 0 := (hEn 0 (Nat.zero_le _)).mp c_70
                  refine lv_iconst (v := nI 0) hx hb dX3_back_90 (by decide) ?_
                  refine lv_istore (lv' := [(5, .int (nI 0)), (4, .int (nI 0)), (0, .ref (ad 0)), (1, .int (nI r)), (2, .int (nI n)), (3, .int (nI j))]) hx hb dX3_back_91 hl (by decide) rfl (fun ls hl => ?_)
                  refine lv_iconst (v := nI 0) hx hb dX3_back_93 (by decide) ?_
                  refine lv_istore (lv' := [(6, .int (nI 0)), (5, .int (nI 0)), (4, .int (nI 0)), (0, .ref (ad 0)), (1, .int (nI r)), (2, .int (nI n)), (3, .int (nI j))]) hx hb dX3_back_94 hl (by decide) rfl (fun ls hl => ?_)
                  refine zloop (head := 96) (nL := 7) (j) (fun k => [(0, .ref (ad 0)), (1, .int (nI r)), (2, .int (nI n)), (3, .int (nI j)), (4, .int (nI 0)), (5, .int (nI (bpos (S.2.1 4) (fun q => S.2.2.1 3 (40 * r + q)) n k))), (6, .int (nI k))]) (fun k hv_k ih_96 ls hl => ?_) 0 (Nat.zero_le _) (lv_sub hl [3, 4, 5, 6, 2, 1, 0] rfl)
                  have hpo := bpos_ok hB hp0 k
                  refine lv_iload hx hb dX3_back_96 (lv_at hl 6 rfl) ?_
                  refine lv_iload_n hx hb dX3_back_98 rfl (lv_at hl 3 rfl) ?_
                  refine zc_ge (tgt := 134) hx hb (by omega) (by omega) dX3_back_99 (by decide) (fun c_99 => ?_) (fun c_99 => ?_)
                  · obtain rfl : j = k := by omega
                    refine lv_iload hx hb dX3_back_134 (lv_at hl 5 rfl) ?_
                    refine lv_iload_n hx hb dX3_back_136 rfl (lv_at hl 2 rfl) ?_
                    refine zc_ge (tgt := 151) hx hb (by omega) (by omega) dX3_back_137 (by decide) (fun c_137 => ?_) (fun c_137 => ?_)
                    · refine lv_ldc hx hb hown (hts _ q1433) dX3_back_151 ?_
                      exact W.iret (v := -1000000) hx hb hr (fun t ht hW => ⟨⟨-1000000, (va_up fi 0 (nI (zll (S.2.2.1 1) (S.2.1 2) (S.2.2.1 3) ((S.2.1 4) 0) r n)), va_up (va_up cn 24 (nF Wu)) 25 (zF Eu), xl), rfl, (by unfold opBack; (try rw [zn_nI (n := r) (by omega)]); (try rw [zn_nI (n := n) (by omega)]); (try rw [zn_nI (n := j) (by omega)]); rw [zif_t c_4, zif_t c_14, zif_t c_26, zif_t c_31, zif_t hll, bback, zif_f c_61, zif_t hp0, zn_nI (n := j) (by omega), zif_f (show ¬ bpos (S.2.1 4) (fun q => S.2.2.1 3 (40 * r + q)) n j < n from by omega)]; exact ⟨rfl, ⟨(congrArg nI hll), hf8, hf12, hf19, hf29, hc1, hc2, hc3, hc4, hc7, hc11, hc26, hc27, hc28⟩, ⟨_, _, _, _, _, _, _, _, _, hc5, hc6, hc9, hc10, rfl, rfl, hc21, hc22, hf23⟩⟩), by rw [ht]; exact hP, hD⟩, hS.F ht⟩) hS.2.2 dX3_back_153
                    · refine lv_aload_n hx hb dX3_back_140 rfl (lv_at hl 0 rfl) ?_
                      refine lv_iload_n hx hb dX3_back_141 rfl (lv_at hl 1 rfl) ?_
                      refine lv_iload hx hb dX3_back_142 (lv_at hl 5 rfl) ?_
                      refine lv_iload_n hx hb dX3_back_144 rfl (lv_at hl 2 rfl) ?_
                      have hQ_145 : va_P g.1 zCL [(ad 0, .inr (3, mO ad (va_up fi 0 (nI (zll (S.2.2.1 1) (S.2.1 2) (S.2.2.1 3) ((S.2.1 4) 0) r n))))), (ad 3, .inl (g.2 0, 320, .inl (cn 3))), (ad 4, .inl (g.2 0, 44, .inl (cn 4))), (ad 25, .inl (g.2 3, 41, .inl (zF Eu)))] _ := hP.sub [0, 3, 4, 14] rfl
                      rw [show _ = _ from hc3] at hQ_145
                      rw [show _ = _ from hc4] at hQ_145
                      refine vp_callSi (W.runV (As := [.int (nI r), .int (nI (bpos (S.2.1 4) (fun q => S.2.2.1 3 (40 * r + q)) n j)), .int (nI n)]) (rest := []) ⟨hx, hb, hml, hown, hts⟩ (m_X3_firstAt l g ad (va_up fi 0 (nI (zll (S.2.2.1 1) (S.2.1 2) (S.2.2.1 3) ((S.2.1 4) 0) r n))) (S.2.2.1 3) (S.2.1 4) hB Eu r (bpos (S.2.1 4) (fun q => S.2.2.1 3 (40 * r + q)) n j) n (by omega) (by omega) (by omega)) (cwV 3 hts (lw_V q1637 q1639 qs52 q69 q1640) rfl rfl rfl hdV_X3_firstAt ⟨Nat.le_of_ble_eq_true rfl, Nat.le_of_ble_eq_true rfl⟩) (zpreV hK hN (va_recv hK hP (ci := 3) (q0 := 0) rfl rfl) hQ_145) rfl rfl hl.1 rfl (lv_room (Nat.le_of_ble_eq_true rfl)) dX3_back_145 ⟨Nat.le_of_ble_eq_true rfl, Nat.le_of_ble_eq_true rfl⟩) (fun r_145 hr_145 => ?_)
                      subst hr_145
                      have hb9 := bfs_at hB (f := (fun q => S.2.2.1 3 (40 * r + q))) (n := n) (i := bpos (S.2.1 4) (fun q => S.2.2.1 3 (40 * r + q)) n j) (by omega) hpo.2
                      refine zti (show _ = nI (bfs (S.2.1 4) (fun q => S.2.2.1 3 (40 * r + q)) n (bpos (S.2.1 4) (fun q => S.2.2.1 3 (40 * r + q)) n j)) from (zfst_c (fun x _ _ => and_congr_right fun hbi => hEn _ hbi.1)).trans hb9.1) ?_
                      refine lv_goto (tgt := 153) hx hb dX3_back_148 (by decide) ?_
                      exact W.iret (v := nI (bfs (S.2.1 4) (fun q => S.2.2.1 3 (40 * r + q)) n (bpos (S.2.1 4) (fun q => S.2.2.1 3 (40 * r + q)) n j))) hx hb hr (fun t ht hW => ⟨⟨nI (bfs (S.2.1 4) (fun q => S.2.2.1 3 (40 * r + q)) n (bpos (S.2.1 4) (fun q => S.2.2.1 3 (40 * r + q)) n j)), (va_up fi 0 (nI (zll (S.2.2.1 1) (S.2.1 2) (S.2.2.1 3) ((S.2.1 4) 0) r n)), va_up (va_up cn 24 (nF Wu)) 25 (zF Eu), xl), rfl, (by unfold opBack; (try rw [zn_nI (n := r) (by omega)]); (try rw [zn_nI (n := n) (by omega)]); (try rw [zn_nI (n := j) (by omega)]); rw [zif_t c_4, zif_t c_14, zif_t c_26, zif_t c_31, zif_t hll, bback, zif_f c_61, zif_t hp0, zn_nI (n := j) (by omega), zif_t (show bpos (S.2.1 4) (fun q => S.2.2.1 3 (40 * r + q)) n j < n from by omega)]; exact ⟨rfl, ⟨(congrArg nI hll), hf8, hf12, hf19, hf29, hc1, hc2, hc3, hc4, hc7, hc11, hc26, hc27, hc28⟩, ⟨_, _, _, _, _, _, _, _, _, hc5, hc6, hc9, hc10, rfl, rfl, hc21, hc22, hf23⟩⟩), by rw [ht]; exact hP, hD⟩, hS.F ht⟩) hS.2.2 dX3_back_153
                  · refine lv_iload hx hb dX3_back_102 (lv_at hl 5 rfl) ?_
                    refine lv_iload_n hx hb dX3_back_104 rfl (lv_at hl 2 rfl) ?_
                    refine zc_ge (tgt := 134) hx hb (by omega) (by omega) dX3_back_105 (by decide) (fun c_105 => ?_) (fun c_105 => ?_)
                    · have hst : bpos (S.2.1 4) (fun q => S.2.2.1 3 (40 * r + q)) n j = bpos (S.2.1 4) (fun q => S.2.2.1 3 (40 * r + q)) n k := by
                        have h9 := bpos_st (Nat.not_lt_of_le c_105) (j - k)
                        rw [show k + (j - k) = j by omega] at h9
                        exact h9
                      rw [← hst] at hl
                      have hpo := bpos_ok hB hp0 j
                      have hl : lv_has ls 7 [(0, .ref (ad 0)), (1, .int (nI r)), (2, .int (nI n)), (3, .int (nI j)), (4, .int (nI 0)), (5, .int (nI (bpos (S.2.1 4) (fun q => S.2.2.1 3 (40 * r + q)) n j))), (6, .int (nI k))] := hl
                      refine lv_iload hx hb dX3_back_134 (lv_at hl 5 rfl) ?_
                      refine lv_iload_n hx hb dX3_back_136 rfl (lv_at hl 2 rfl) ?_
                      refine zc_ge (tgt := 151) hx hb (by omega) (by omega) dX3_back_137 (by decide) (fun c_137 => ?_) (fun c_137 => ?_)
                      · refine lv_ldc hx hb hown (hts _ q1433) dX3_back_151 ?_
                        exact W.iret (v := -1000000) hx hb hr (fun t ht hW => ⟨⟨-1000000, (va_up fi 0 (nI (zll (S.2.2.1 1) (S.2.1 2) (S.2.2.1 3) ((S.2.1 4) 0) r n)), va_up (va_up cn 24 (nF Wu)) 25 (zF Eu), xl), rfl, (by unfold opBack; (try rw [zn_nI (n := r) (by omega)]); (try rw [zn_nI (n := n) (by omega)]); (try rw [zn_nI (n := j) (by omega)]); rw [zif_t c_4, zif_t c_14, zif_t c_26, zif_t c_31, zif_t hll, bback, zif_f c_61, zif_t hp0, zn_nI (n := j) (by omega), zif_f (show ¬ bpos (S.2.1 4) (fun q => S.2.2.1 3 (40 * r + q)) n j < n from by omega)]; exact ⟨rfl, ⟨(congrArg nI hll), hf8, hf12, hf19, hf29, hc1, hc2, hc3, hc4, hc7, hc11, hc26, hc27, hc28⟩, ⟨_, _, _, _, _, _, _, _, _, hc5, hc6, hc9, hc10, rfl, rfl, hc21, hc22, hf23⟩⟩), by rw [ht]; exact hP, hD⟩, hS.F ht⟩) hS.2.2 dX3_back_153
                      · refine lv_aload_n hx hb dX3_back_140 rfl (lv_at hl 0 rfl) ?_
                        refine lv_iload_n hx hb dX3_back_141 rfl (lv_at hl 1 rfl) ?_
                        refine lv_iload hx hb dX3_back_142 (lv_at hl 5 rfl) ?_
                        refine lv_iload_n hx hb dX3_back_144 rfl (lv_at hl 2 rfl) ?_
                        have hQ_145 : va_P g.1 zCL [(ad 0, .inr (3, mO ad (va_up fi 0 (nI (zll (S.2.2.1 1) (S.2.1 2) (S.2.2.1 3) ((S.2.1 4) 0) r n))))), (ad 3, .inl (g.2 0, 320, .inl (cn 3))), (ad 4, .inl (g.2 0, 44, .inl (cn 4))), (ad 25, .inl (g.2 3, 41, .inl (zF Eu)))] _ := hP.sub [0, 3, 4, 14] rfl
                        rw [show _ = _ from hc3] at hQ_145
                        rw [show _ = _ from hc4] at hQ_145
                        refine vp_callSi (W.runV (As := [.int (nI r), .int (nI (bpos (S.2.1 4) (fun q => S.2.2.1 3 (40 * r + q)) n j)), .int (nI n)]) (rest := []) ⟨hx, hb, hml, hown, hts⟩ (m_X3_firstAt l g ad (va_up fi 0 (nI (zll (S.2.2.1 1) (S.2.1 2) (S.2.2.1 3) ((S.2.1 4) 0) r n))) (S.2.2.1 3) (S.2.1 4) hB Eu r (bpos (S.2.1 4) (fun q => S.2.2.1 3 (40 * r + q)) n j) n (by omega) (by omega) (by omega)) (cwV 3 hts (lw_V q1637 q1639 qs52 q69 q1640) rfl rfl rfl hdV_X3_firstAt ⟨Nat.le_of_ble_eq_true rfl, Nat.le_of_ble_eq_true rfl⟩) (zpreV hK hN (va_recv hK hP (ci := 3) (q0 := 0) rfl rfl) hQ_145) rfl rfl hl.1 rfl (lv_room (Nat.le_of_ble_eq_true rfl)) dX3_back_145 ⟨Nat.le_of_ble_eq_true rfl, Nat.le_of_ble_eq_true rfl⟩) (fun r_145 hr_145 => ?_)
                        subst hr_145
                        have hb9 := bfs_at hB (f := (fun q => S.2.2.1 3 (40 * r + q))) (n := n) (i := bpos (S.2.1 4) (fun q => S.2.2.1 3 (40 * r + q)) n j) (by omega) hpo.2
                        refine zti (show _ = nI (bfs (S.2.1 4) (fun q => S.2.2.1 3 (40 * r + q)) n (bpos (S.2.1 4) (fun q => S.2.2.1 3 (40 * r + q)) n j)) from (zfst_c (fun x _ _ => and_congr_right fun hbi => hEn _ hbi.1)).trans hb9.1) ?_
                        refine lv_goto (tgt := 153) hx hb dX3_back_148 (by decide) ?_
                        exact W.iret (v := nI (bfs (S.2.1 4) (fun q => S.2.2.1 3 (40 * r + q)) n (bpos (S.2.1 4) (fun q => S.2.2.1 3 (40 * r + q)) n j))) hx hb hr (fun t ht hW => ⟨⟨nI (bfs (S.2.1 4) (fun q => S.2.2.1 3 (40 * r + q)) n (bpos (S.2.1 4) (fun q => S.2.2.1 3 (40 * r + q)) n j)), (va_up fi 0 (nI (zll (S.2.2.1 1) (S.2.1 2) (S.2.2.1 3) ((S.2.1 4) 0) r n)), va_up (va_up cn 24 (nF Wu)) 25 (zF Eu), xl), rfl, (by unfold opBack; (try rw [zn_nI (n := r) (by omega)]); (try rw [zn_nI (n := n) (by omega)]); (try rw [zn_nI (n := j) (by omega)]); rw [zif_t c_4, zif_t c_14, zif_t c_26, zif_t c_31, zif_t hll, bback, zif_f c_61, zif_t hp0, zn_nI (n := j) (by omega), zif_t (show bpos (S.2.1 4) (fun q => S.2.2.1 3 (40 * r + q)) n j < n from by omega)]; exact ⟨rfl, ⟨(congrArg nI hll), hf8, hf12, hf19, hf29, hc1, hc2, hc3, hc4, hc7, hc11, hc26, hc27, hc28⟩, ⟨_, _, _, _, _, _, _, _, _, hc5, hc6, hc9, hc10, rfl, rfl, hc21, hc22, hf23⟩⟩), by rw [ht]; exact hP, hD⟩, hS.F ht⟩) hS.2.2 dX3_back_153
                    · refine lv_iload hx hb dX3_back_108 (lv_at hl 5 rfl) ?_
                      refine lv_aload_n hx hb dX3_back_110 rfl (lv_at hl 0 rfl) ?_
                      refine va_get (D := g.1) (ci := 3) (v := .ref (ad 4)) (C := RX3) (T := TX3) (N := 30) hx hb hts in_X3 hown hK hP 0 rfl rfl 4 (by decide) (hts _ q1301) (fun _ h9 => h9) rfl dX3_back_111 ?_
                      refine lv_aload_n hx hb dX3_back_114 rfl (lv_at hl 0 rfl) ?_
                      refine lv_iload_n hx hb dX3_back_115 rfl (lv_at hl 1 rfl) ?_
                      refine lv_iload hx hb dX3_back_116 (lv_at hl 5 rfl) ?_
                      refine lv_iload_n hx hb dX3_back_118 rfl (lv_at hl 2 rfl) ?_
                      have hQ_119 : va_P g.1 zCL [(ad 0, .inr (3, mO ad (va_up fi 0 (nI (zll (S.2.2.1 1) (S.2.1 2) (S.2.2.1 3) ((S.2.1 4) 0) r n))))), (ad 3, .inl (g.2 0, 320, .inl (cn 3))), (ad 4, .inl (g.2 0, 44, .inl (cn 4))), (ad 25, .inl (g.2 3, 41, .inl (zF Eu)))] _ := hP.sub [0, 3, 4, 14] rfl
                      rw [show _ = _ from hc3] at hQ_119
                      rw [show _ = _ from hc4] at hQ_119
                      refine vp_callSi (W.runV (As := [.int (nI r), .int (nI (bpos (S.2.1 4) (fun q => S.2.2.1 3 (40 * r + q)) n k)), .int (nI n)]) (rest := [.ref (ad 4), .int (nI (bpos (S.2.1 4) (fun q => S.2.2.1 3 (40 * r + q)) n k))]) ⟨hx, hb, hml, hown, hts⟩ (m_X3_firstAt l g ad (va_up fi 0 (nI (zll (S.2.2.1 1) (S.2.1 2) (S.2.2.1 3) ((S.2.1 4) 0) r n))) (S.2.2.1 3) (S.2.1 4) hB Eu r (bpos (S.2.1 4) (fun q => S.2.2.1 3 (40 * r + q)) n k) n (by omega) (by omega) (by omega)) (cwV 3 hts (lw_V q1637 q1639 qs52 q69 q1640) rfl rfl rfl hdV_X3_firstAt ⟨Nat.le_of_ble_eq_true rfl, Nat.le_of_ble_eq_true rfl⟩) (zpreV hK hN (va_recv hK hP (ci := 3) (q0 := 0) rfl rfl) hQ_119) rfl rfl hl.1 rfl (lv_room (Nat.le_of_ble_eq_true rfl)) dX3_back_119 ⟨Nat.le_of_ble_eq_true rfl, Nat.le_of_ble_eq_true rfl⟩) (fun r_119 hr_119 => ?_)
                      subst hr_119
                      have hb8 := bfs_at hB (f := (fun q => S.2.2.1 3 (40 * r + q))) (n := n) (i := bpos (S.2.1 4) (fun q => S.2.2.1 3 (40 * r + q)) n k) (Nat.lt_of_not_le c_105) hpo.2
                      refine zti (show _ = nI (bfs (S.2.1 4) (fun q => S.2.2.1 3 (40 * r + q)) n (bpos (S.2.1 4) (fun q => S.2.2.1 3 (40 * r + q)) n k)) from (zfst_c (fun x _ _ => and_congr_right fun hbi => hEn _ hbi.1)).trans hb8.1) ?_
                      have hQ_122 : va_P g.1 zCL [(ad 4, .inl (g.2 0, 44, .inl (cn 4)))] _ := hP.sub [4] rfl
                      rw [show _ = _ from hc4] at hQ_122
                      refine vp_callSi (W.runS (As := [.ref (ad 4), .int (nI (bfs (S.2.1 4) (fun q => S.2.2.1 3 (40 * r + q)) n (bpos (S.2.1 4) (fun q => S.2.2.1 3 (40 * r + q)) n k)))]) (rest := [.int (nI (bpos (S.2.1 4) (fun q => S.2.2.1 3 (40 * r + q)) n k))]) ⟨hx, hb, hml, hown, hts⟩ (m_X3_imageSize l g (ad 4) (S.2.1 4) (bfs (S.2.1 4) (fun q => S.2.2.1 3 (40 * r + q)) n (bpos (S.2.1 4) (fun q => S.2.2.1 3 (40 * r + q)) n k)) (by omega) (by first | assumption | omega | exact (hB.kd (by omega)).2)) (va_cwS 2 hts (lw_S q1539 q1540 q69 q1541) rfl rfl rfl hdS_X3_imageSize ⟨Nat.le_of_ble_eq_true rfl, Nat.le_of_ble_eq_true rfl⟩) (zpreS hK hN hQ_122) rfl rfl hl.1 rfl (lv_room (Nat.le_of_ble_eq_true rfl)) dX3_back_122 ⟨Nat.le_of_ble_eq_true rfl, Nat.le_of_ble_eq_true rfl⟩) (fun r_122 hr_122 => ?_)
                      subst hr_122
                      refine lv_iadd hx hb dX3_back_125 ?_
                      refine zti (nI_add (bpos (S.2.1 4) (fun q => S.2.2.1 3 (40 * r + q)) n k) (bil (S.2.1 4) (bfs (S.2.1 4) (fun q => S.2.2.1 3 (40 * r + q)) n (bpos (S.2.1 4) (fun q => S.2.2.1 3 (40 * r + q)) n k)))) ?_
                      refine lv_istore (lv' := [(5, .int (nI (bpos (S.2.1 4) (fun q => S.2.2.1 3 (40 * r + q)) n k + (bil (S.2.1 4) (bfs (S.2.1 4) (fun q => S.2.2.1 3 (40 * r + q)) n (bpos (S.2.1 4) (fun q => S.2.2.1 3 (40 * r + q)) n k)))))), (0, .ref (ad 0)), (1, .int (nI r)), (2, .int (nI n)), (3, .int (nI j)), (4, .int (nI 0)), (6, .int (nI k))]) hx hb dX3_back_126 hl (by decide) rfl (fun ls hl => ?_)
                      refine lv_iinc (v := nI (k + 1)) (lv' := [(6, .int (nI (k + 1))), (5, .int (nI (bpos (S.2.1 4) (fun q => S.2.2.1 3 (40 * r + q)) n k + (bil (S.2.1 4) (bfs (S.2.1 4) (fun q => S.2.2.1 3 (40 * r + q)) n (bpos (S.2.1 4) (fun q => S.2.2.1 3 (40 * r + q)) n k)))))), (0, .ref (ad 0)), (1, .int (nI r)), (2, .int (nI n)), (3, .int (nI j)), (4, .int (nI 0))]) hx hb dX3_back_128 hl (k := 6) rfl (nI_add k 1) (by decide) rfl (fun ls hl => ?_)
                      refine lv_goto (tgt := 96) hx hb dX3_back_131 (by decide) ?_
                      exact ih_96 (by omega) _ (by rw [show bpos (S.2.1 4) (fun q => S.2.2.1 3 (40 * r + q)) n (k + 1) = _ from zif_t (Nat.lt_of_not_le c_105)]; exact lv_sub hl [2, 3, 4, 5, 6, 1, 0] rfl)
                · refine lv_iload_n hx hb dX3_back_73 rfl (lv_at hl 4 rfl) ?_
                  refine lv_iconst (v := -1) hx hb dX3_back_74 (by decide) ?_
                  refine lv_icmp_ne (tgt := 87) hx hb dX3_back_75 (by decide) (fun c_75 => ?_) (fun c_75 => ?_)
                  · have hn9 : ¬ 0 < bV (S.2.1 4) (fun q => S.2.2.1 3 (40 * r + q)) n 0 := fun z => c_70 ((hEn 0 (Nat.zero_le _)).mpr z)
                    refine lv_ldc hx hb hown (hts _ q1433) dX3_back_87 ?_
                    exact W.iret (v := -1000000) hx hb hr (fun t ht hW => ⟨⟨-1000000, (va_up fi 0 (nI (zll (S.2.2.1 1) (S.2.1 2) (S.2.2.1 3) ((S.2.1 4) 0) r n)), va_up (va_up cn 24 (nF Wu)) 25 (zF Eu), xl), rfl, (by unfold opBack; (try rw [zn_nI (n := r) (by omega)]); (try rw [zn_nI (n := n) (by omega)]); rw [zif_t c_4, zif_t c_14, zif_t c_26, zif_t c_31, zif_t hll, bback, zif_f c_61, zif_f hn9]; exact ⟨rfl, ⟨(congrArg nI hll), hf8, hf12, hf19, hf29, hc1, hc2, hc3, hc4, hc7, hc11, hc26, hc27, hc28⟩, ⟨_, _, _, _, _, _, _, _, _, hc5, hc6, hc9, hc10, rfl, rfl, hc21, hc22, hf23⟩⟩), by rw [ht]; exact hP, hD⟩, hS.F ht⟩) hS.2.2 dX3_back_89
                  · exact absurd c_75 c_61
            · exact absurd rfl c_47
          · have hne := zres_ne hll (zll_le (S.2.2.1 1) (S.2.1 2) (S.2.2.1 3) (S.2.1 4 0) r n)
            refine lv_istore (lv' := [(4, .int (zres (zll (S.2.2.1 1) (S.2.1 2) (S.2.2.1 3) ((S.2.1 4) 0) r n))), (0, .ref (ad 0)), (1, .int (nI r)), (2, .int (nI n)), (3, .int w2)]) hx hb dX3_back_43 hl (by decide) rfl (fun ls hl => ?_)
            refine lv_iload hx hb dX3_back_45 (lv_at hl 0 rfl) ?_
            refine lv_if_eq (tgt := 53) hx hb dX3_back_47 (by decide) (fun c_47 => ?_) (fun c_47 => ?_)
            · exact absurd c_47 hne
            · refine lv_iload hx hb dX3_back_50 (lv_at hl 0 rfl) ?_
              exact W.iret (v := zres (zll (S.2.2.1 1) (S.2.1 2) (S.2.2.1 3) ((S.2.1 4) 0) r n)) hx hb hr (fun t ht hW => ⟨⟨zres (zll (S.2.2.1 1) (S.2.1 2) (S.2.2.1 3) ((S.2.1 4) 0) r n), (va_up fi 0 (nI (zll (S.2.2.1 1) (S.2.1 2) (S.2.2.1 3) ((S.2.1 4) 0) r n)), cn, xl), rfl, (by unfold opBack; (try rw [zn_nI (n := r) (by omega)]); (try rw [zn_nI (n := n) (by omega)]); rw [zif_t c_4, zif_t c_14, zif_t c_26, zif_t c_31, zif_f hll]; exact ⟨rfl, ⟨rfl, hf8, hf12, hf19, hf29, hc1, hc2, hc3, hc4, hc7, hc11, hc26, hc27, hc28⟩, ⟨_, _, _, _, _, _, _, _, _, hc5, hc6, hc9, hc10, hc24, hc25, hc21, hc22, hf23⟩⟩), by rw [ht]; exact hP, hD⟩, hS.F ht⟩) hS.2.2 dX3_back_52
        · refine lv_ldc hx hb hown (hts _ q1401) dX3_back_34 ?_
          exact W.iret (v := -1000001) hx hb hr (fun t ht hW => ⟨⟨-1000001, (fi, cn, xl), rfl, (by unfold opBack; rw [zif_t c_4, zif_t c_14, zif_t c_26, zif_f c_31]; exact ⟨rfl, ⟨hf0, hf8, hf12, hf19, hf29, hc1, hc2, hc3, hc4, hc7, hc11, hc26, hc27, hc28⟩, ⟨_, _, _, _, _, _, _, _, _, hc5, hc6, hc9, hc10, hc24, hc25, hc21, hc22, hf23⟩⟩), by rw [ht]; exact hP, hD⟩, hS.F ht⟩) hS.2.2 dX3_back_36
  · refine lv_ldc hx hb hown (hts _ q1475) dX3_back_7 ?_
    exact W.iret (v := -1000002) hx hb hr (fun t ht hW => ⟨⟨-1000002, (fi, cn, xl), rfl, (by unfold opBack; rw [zif_f c_4]; exact ⟨rfl, ⟨hf0, hf8, hf12, hf19, hf29, hc1, hc2, hc3, hc4, hc7, hc11, hc26, hc27, hc28⟩, ⟨_, _, _, _, _, _, _, _, _, hc5, hc6, hc9, hc10, hc24, hc25, hc21, hc22, hf23⟩⟩), by rw [ht]; exact hP, hD⟩, hS.F ht⟩) hS.2.2 dX3_back_9
