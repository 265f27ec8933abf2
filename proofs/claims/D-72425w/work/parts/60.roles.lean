/-! a world told by roles -/
def rW (R : List Nat) (ad : Nat → Nat) (ce : Nat → va_E) : va_W := R.map (fun i => (ad i, ce i))
theorem rW_at {R : List Nat} {ad : Nat → Nat} {ce : Nat → va_E} {i : Nat} {E : va_E} (hi : i ∈ R) (hc : ce i = E) : ∃ k : Nat, (rW R ad ce)[k]? = some (ad i, E) :=
  List.getElem?_of_mem (List.mem_map.mpr ⟨i, hi, by rw [hc]⟩)
theorem rW_of {R : List Nat} {ad : Nat → Nat} {ce : Nat → va_E} {k : Nat} {q : Nat × va_E} (h : (rW R ad ce)[k]? = some q) : ∃ i, R[k]? = some i ∧ q = (ad i, ce i) := by
  unfold rW at h
  rw [List.getElem?_map] at h
  cases e : R[k]? with
  | none => rw [e] at h; cases h
  | some i => rw [e] at h; exact ⟨i, rfl, (Option.some.inj h).symm⟩
theorem rW_get {R : List Nat} {ad : Nat → Nat} {ce : Nat → va_E} {k i : Nat} (h : R[k]? = some i) : (rW R ad ce)[k]? = some (ad i, ce i) := by
  unfold rW
  rw [List.getElem?_map, h]
  rfl
/-- no two roles lie at one address -/
theorem rW_inj {A : Nat → Prop} {R : List Nat} {ad : Nat → Nat} {ce : Nat → va_E} (hD : va_D A (rW R ad ce)) {i j : Nat} (hi : i ∈ R) (hj : j ∈ R) (h : ad i = ad j) : i = j := by
  obtain ⟨a, ha⟩ := List.getElem?_of_mem hi
  obtain ⟨b, hb⟩ := List.getElem?_of_mem hj
  have e := hD.1 a b _ _ (rW_get ha) (rW_get hb) h
  subst e
  exact Option.some.inj (ha.symm.trans hb)
theorem rW_set {A : Nat → Prop} {R : List Nat} {ad : Nat → Nat} {ce : Nat → va_E} (hD : va_D A (rW R ad ce)) {i k : Nat} (hi : i ∈ R) {E0 : va_E} (hk : (rW R ad ce)[k]? = some (ad i, E0)) (E : va_E) : (rW R ad ce).set k (ad i, E) = rW R ad (va_up ce i E) := by
  obtain ⟨j, hj, e⟩ := rW_of hk
  have hij : i = j := rW_inj hD hi (List.mem_of_getElem? hj) (congrArg Prod.fst e)
  subst hij
  have hl := (List.getElem?_eq_some_iff.mp hk).1
  apply List.ext_getElem?
  intro b
  by_cases q : b = k
  · subst q
    rw [List.getElem?_set_self hl, rW_get hj, va_up_self]
  · rw [List.getElem?_set_ne (Ne.symm q)]
    cases e2 : R[b]? with
    | none =>
      unfold rW
      rw [List.getElem?_map, List.getElem?_map, e2]
      rfl
    | some r =>
      rw [rW_get e2, rW_get e2]
      have hr : r ≠ i := fun z => by
        subst z
        exact q (hD.1 b k _ _ (rW_get e2) (rW_get hj) rfl)
      rw [va_up_ne _ _ hr]
theorem rW_push {R : List Nat} {ad : Nat → Nat} {ce : Nat → va_E} {i q : Nat} {E : va_E} (h : i ∉ R) : rW R ad ce ++ [(q, E)] = rW (R ++ [i]) (va_up ad i q) (va_up ce i E) := by
  unfold rW
  rw [List.map_append, List.map_cons, List.map_nil, va_up_self, va_up_self]
  congr 1
  apply List.map_congr_left
  intro b hb
  have hne : b ≠ i := fun z => h (z ▸ hb)
  rw [va_up_ne _ _ hne, va_up_ne _ _ hne]
theorem rW_congr {R : List Nat} {ad ad' : Nat → Nat} {ce ce' : Nat → va_E} (h : ∀ i ∈ R, ad i = ad' i ∧ ce i = ce' i) : rW R ad ce = rW R ad' ce' :=
  List.map_congr_left fun i hi => by rw [(h i hi).1, (h i hi).2]
/-- no role stands twice -/
def rN (R : List Nat) : Prop := ∀ a b i : Nat, R[a]? = some i → R[b]? = some i → a = b
theorem rW_nodup {A : Nat → Prop} {R : List Nat} {ad : Nat → Nat} {ce : Nat → va_E} (hD : va_D A (rW R ad ce)) : rN R := fun a b _ ha hb => hD.1 a b _ _ (rW_get ha) (rW_get hb) rfl
/-- fewer roles -/
theorem rW_subP {D : va_G} {cl : List vw_C} {R R' : List Nat} {ad : Nat → Nat} {ce : Nat → va_E} {H : Heap} (hP : va_P D cl (rW R ad ce) H) (hs : ∀ i ∈ R', i ∈ R) : va_P D cl (rW R' ad ce) H := fun k q hk => by
  obtain ⟨i, hi, rfl⟩ := rW_of hk
  obtain ⟨j, hj⟩ := rW_at (ad := ad) (ce := ce) (hs i (List.mem_of_getElem? hi)) rfl
  exact hP j _ hj
theorem rW_subD {A : Nat → Prop} {R R' : List Nat} {ad : Nat → Nat} {ce : Nat → va_E} (hD : va_D A (rW R ad ce)) (hs : ∀ i ∈ R', i ∈ R) (hn : rN R') : va_D A (rW R' ad ce) := by
  constructor
  · intro a b p q ha hb h
    obtain ⟨i, hi, rfl⟩ := rW_of ha
    obtain ⟨j, hj, rfl⟩ := rW_of hb
    have e := rW_inj hD (hs i (List.mem_of_getElem? hi)) (hs j (List.mem_of_getElem? hj)) h
    subst e
    exact hn a b i hi hj
  · intro k q hk
    obtain ⟨i, hi, rfl⟩ := rW_of hk
    obtain ⟨j, hj⟩ := rW_at (ad := ad) (ce := ce) (hs i (List.mem_of_getElem? hi)) rfl
    exact hD.2 j _ hj
/-- what a method of the component may change -/
def rA (R : List Nat) (ad : Nat → Nat) (sz : Nat) : Nat → Prop := fun q => (∃ i ∈ R, q = ad i) ∨ sz ≤ q
theorem rA_D {T : Nat → Prop} {R : List Nat} {ad : Nat → Nat} {ce : Nat → va_E} {sz : Nat} (h : va_D T (rW R ad ce)) : va_D (rA R ad sz) (rW R ad ce) := ⟨h.1, fun k q hk => by
  obtain ⟨i, hi, rfl⟩ := rW_of hk
  exact Or.inl ⟨i, List.mem_of_getElem? hi, rfl⟩⟩
