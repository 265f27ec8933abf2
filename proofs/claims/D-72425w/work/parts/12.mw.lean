/-! the twin's object and its arrays: ad k the address of what field k names (ad 0: its own), fi k an int field, c k an array of ints, x k one of longs -/
abbrev mO (ad : Nat → Nat) (fi : Nat → Int32) : List Value := [.int (fi 0), .ref (ad 1), .ref (ad 2), .ref (ad 3), .ref (ad 4), .ref (ad 5), .ref (ad 6), .ref (ad 7), .int (fi 8), .ref (ad 9), .ref (ad 10), .ref (ad 11), .int (fi 12), .int (fi 13), .int (fi 14), .int (fi 15), .int (fi 16), .int (fi 17), .int (fi 18), .int (fi 19), .int (fi 20), .ref (ad 21), .ref (ad 22), .int (fi 23), .ref (ad 24), .ref (ad 25), .ref (ad 26), .ref (ad 27), .ref (ad 28), .int (fi 29)]
abbrev mW (g : zG) (ad : Nat → Nat) (fi : Nat → Int32) (c : Nat → Nat → Int32) (x : Nat → Nat → Int64) : va_W := [(ad 0, .inr (3, mO ad fi)), (ad 1, .inl (g.2 0, 8, .inl (c 1))), (ad 2, .inl (g.2 0, 8, .inl (c 2))), (ad 3, .inl (g.2 0, 320, .inl (c 3))), (ad 4, .inl (g.2 0, 44, .inl (c 4))), (ad 5, .inl (g.2 0, 44, .inl (c 5))), (ad 6, .inl (g.2 0, 44, .inl (c 6))), (ad 7, .inl (g.2 0, 1056, .inl (c 7))), (ad 9, .inl (g.2 0, 300, .inl (c 9))), (ad 10, .inl (g.2 0, 300, .inl (c 10))), (ad 11, .inl (g.2 0, 120, .inl (c 11))), (ad 21, .inl (g.2 1, 4, .inr (.inl (x 21)))), (ad 22, .inl (g.2 1, 4, .inr (.inl (x 22)))), (ad 24, .inl (g.2 0, 41, .inl (c 24))), (ad 25, .inl (g.2 3, 41, .inl (c 25))), (ad 26, .inl (g.2 3, 2, .inl (c 26))), (ad 27, .inl (g.2 0, 88, .inl (c 27))), (ad 28, .inl (g.2 0, 16, .inl (c 28)))]
/-- what a method of the twin may change -/
def mA (ad : Nat → Nat) (sz : Nat) : Nat → Prop := fun q => q ∈ [ad 0, ad 1, ad 2, ad 3, ad 4, ad 5, ad 6, ad 7, ad 9, ad 10, ad 11, ad 21, ad 22, ad 24, ad 25, ad 26, ad 27, ad 28] ∨ sz ≤ q
abbrev mU : Type := (Nat → Int32) × (Nat → Nat → Int32) × (Nat → Nat → Int64)
def mH (g : zG) (ad : Nat → Nat) (fi : Nat → Int32) (cn : Nat → Nat → Int32) (xl : Nat → Nat → Int64) (sz : Nat) : Heap → Prop := fun H => H.size = sz ∧ va_P g.1 zCL (mW g ad fi cn xl) H ∧ va_D (fun _ => True) (mW g ad fi cn xl)
def mB (g : zG) (ad : Nat → Nat) (sz : Nat) : mU → State → Prop := fun u t => va_P g.1 zCL (mW g ad u.1 u.2.1 u.2.2) t.heap ∧ va_D (mA ad sz) (mW g ad u.1 u.2.1 u.2.2)
theorem mA_le {ad : Nat → Nat} {a b : Nat} (h : a ≤ b) : ∀ q, mA ad b q → mA ad a q := fun _ hq => hq.elim Or.inl (fun z => Or.inr (Nat.le_trans h z))
theorem mD_self {g : zG} {ad : Nat → Nat} {fi : Nat → Int32} {cn : Nat → Nat → Int32} {xl : Nat → Nat → Int64} {T : Nat → Prop} (sz : Nat) (h : va_D T (mW g ad fi cn xl)) : va_D (mA ad sz) (mW g ad fi cn xl) := by
  refine ⟨h.1, fun k q hk => Or.inl ?_⟩
  have h1 := List.mem_map_of_mem (f := fun q : Nat × va_E => q.1) (List.mem_of_getElem? hk)
  exact h1
/-- an array's contents may be told by any function that is the same on its places -/
theorem arrV_ext {cA : ClassId} {n : Nat} {f f' : Nat → Value} (h : ∀ j, j < n → f j = f' j) : arrV cA n f = arrV cA n f' := by
  unfold arrV
  congr 2
  funext j
  exact h j.1 j.2
theorem va_P.exi {D : va_G} {cl : List vw_C} {ws : va_W} {H : Heap} {A : Nat → Prop} (h : va_P D cl ws H) (hD : va_D A ws) (p : Nat) {a n : Nat} {cA : ClassId} {f f' : Nat → Int32} (hp : ws[p]? = some (a, .inl (cA, n, .inl f))) (he : ∀ j, j < n → f j = f' j) : va_P D cl (ws.set p (a, .inl (cA, n, .inl f'))) H ∧ va_D A (ws.set p (a, .inl (cA, n, .inl f'))) := by
  refine ⟨h.set hD hp ?_ (fun _ _ => rfl), hD.set hp⟩
  have h1 : H[a]? = some (vp_cell cA (n, .inl f)) := h p _ hp
  have e : vp_cell cA (n, .inl f') = vp_cell cA (n, .inl f) := by
    rw [vp_cell_i, vp_cell_i]
    exact arrV_ext (fun j hj => by rw [he j hj])
  show H[a]? = some (vp_cell cA (n, .inl f'))
  rw [e]
  exact h1
theorem va_P.exl {D : va_G} {cl : List vw_C} {ws : va_W} {H : Heap} {A : Nat → Prop} (h : va_P D cl ws H) (hD : va_D A ws) (p : Nat) {a n : Nat} {cA : ClassId} {f f' : Nat → Int64} (hp : ws[p]? = some (a, .inl (cA, n, .inr (.inl f)))) (he : ∀ j, j < n → f j = f' j) : va_P D cl (ws.set p (a, .inl (cA, n, .inr (.inl f')))) H ∧ va_D A (ws.set p (a, .inl (cA, n, .inr (.inl f')))) := by
  refine ⟨h.set hD hp ?_ (fun _ _ => rfl), hD.set hp⟩
  have h1 : H[a]? = some (vp_cell cA (n, .inr (.inl f))) := h p _ hp
  have e : vp_cell cA (n, .inr (.inl f')) = vp_cell cA (n, .inr (.inl f)) := by
    rw [vp_cell_l, vp_cell_l]
    exact arrV_ext (fun j hj => by rw [he j hj])
  show H[a]? = some (vp_cell cA (n, .inr (.inl f')))
  rw [e]
  exact h1
/-- one more place of a copy -/
theorem zcpy_s {α : Type} (f g : Nat → α) (sp dp k : Nat) : va_up (va_cpy f g sp dp k) (dp + k) (f (sp + k)) = va_cpy f g sp dp (k + 1) := by
  funext j
  unfold va_up va_cpy
  by_cases h : j = dp + k
  · subst h
    rw [if_pos rfl, if_pos (by omega), show sp + (dp + k - dp) = sp + k by omega]
  · rw [if_neg h]
    by_cases h2 : dp ≤ j ∧ j < dp + k
    · rw [if_pos h2, if_pos (by omega)]
    · rw [if_neg h2, if_neg (by omega)]
theorem zcpy_0 {α : Type} (f g : Nat → α) (sp dp : Nat) : va_cpy f g sp dp 0 = g := by
  funext j
  unfold va_cpy
  rw [if_neg (by omega)]
theorem zcpy_in {α : Type} {f g : Nat → α} {sp dp n j : Nat} (h : dp ≤ j) (h2 : j < dp + n) : va_cpy f g sp dp n j = f (sp + (j - dp)) := if_pos ⟨h, h2⟩
theorem upd_cpy (f g : Nat → Int32) (sp dp k : Nat) : upd (va_cpy f g sp dp k) (dp + k) (f (sp + k)) = va_cpy f g sp dp (k + 1) := zcpy_s f g sp dp k
theorem va_up_id {α : Type} {cn : Nat → α} {k : Nat} {f : α} (h : cn k = f) : cn = va_up cn k f := by
  funext j
  unfold va_up
  by_cases q : j = k
  · rw [if_pos q, q]; exact h
  · rw [if_neg q]
theorem mW_up {g : zG} {ad : Nat → Nat} {fi : Nat → Int32} {cn : Nat → Nat → Int32} {xl : Nat → Nat → Int64} {k : Nat} {f : Nat → Int32} (h : cn k = f) : mW g ad fi cn xl = mW g ad fi (va_up cn k f) xl := congrArg (fun c9 => mW g ad fi c9 xl) (va_up_id h)
theorem mW_upl {g : zG} {ad : Nat → Nat} {fi : Nat → Int32} {cn : Nat → Nat → Int32} {xl : Nat → Nat → Int64} {k : Nat} {f : Nat → Int64} (h : xl k = f) : mW g ad fi cn xl = mW g ad fi cn (va_up xl k f) := congrArg (fun c9 => mW g ad fi cn c9) (va_up_id h)
/-- one more place of a copy, below -/
theorem zcpy_p {α : Type} (f g : Nat → α) (sp dp k : Nat) : va_up (va_cpy f g (sp + 1) (dp + 1) k) dp (f sp) = va_cpy f g sp dp (k + 1) := by
  funext j
  unfold va_up va_cpy
  by_cases h : j = dp
  · subst h
    rw [if_pos rfl, if_pos (by omega), Nat.sub_self, Nat.add_zero]
  · rw [if_neg h]
    by_cases h2 : dp + 1 ≤ j ∧ j < dp + 1 + k
    · rw [if_pos h2, if_pos (by omega), show sp + 1 + (j - (dp + 1)) = sp + (j - dp) by omega]
    · rw [if_neg h2, if_neg (by omega)]
theorem upd_cpyp (f g : Nat → Int32) (sp dp k : Nat) : upd (va_cpy f g (sp + 1) (dp + 1) k) dp (f sp) = va_cpy f g sp dp (k + 1) := zcpy_p f g sp dp k
