/-! a book that was read without a fault is a book -/
theorem pgo_k {T : Nat → Nat} {n : Nat} {a : pS} : (pgo T n a).2.1 = a.2.1 := by
  unfold pgo
  exact zif_ind (fun z : pS => z.2.1 = a.2.1) rfl rfl
theorem pmust_ok {T : Nat → Nat} {n : Nat} {P : Prop} {a : pS} (h : (pmust T n P a).2.1 = 0) : a.2.1 = 0 ∧ P := by
  unfold pmust at h
  rw [pgo_k] at h
  by_cases c : P
  · rw [zif_t c] at h; exact ⟨h, c⟩
  · rw [zif_f c] at h; exact absurd h pbad_nz
theorem psgn_ok {T : Nat → Nat} {n c : Nat} {a : pS} (h : (psgn T n c a).2.1 = 0) : a.2.1 = 0 := (pmust_ok h).1
theorem pfgm_ok {T : Nat → Nat} {n lo hi i : Nat} {a : pS} (h : (pfgm T n lo hi i a).2.1 = 0) : a.2.1 = 0 ∧ lo ≤ pfgv T n lo hi a ∧ pfgv T n lo hi a ≤ hi := by
  have h1 : (pgo T n (pfig T n lo hi a)).2.1 = 0 := h
  rw [pgo_k] at h1
  have e : pfgv T n lo hi a = zn (tkV T n a.1) := zif_t h1
  by_cases c : a.2.1 = 0
  · refine ⟨c, ?_⟩
    rw [e]
    unfold pfig at h1
    rw [zif_t c] at h1
    by_cases d : tkK T n a.1 = 3
    · rw [zif_t d] at h1
      by_cases q : zIn (tkV T n a.1) lo hi
      · have := zIn_nat q (by omega)
        omega
      · rw [zif_f q] at h1; exact absurd h1 pbad_nz
    · rw [zif_f d] at h1; exact absurd h1 pbad_nz
  · unfold pfig at h1
    rw [zif_f c] at h1
    exact absurd h1 c
theorem pwdm_ok {T : Nat → Nat} {n wa mo i : Nat} {a : pS} (hm : 1 ≤ mo) (h : (pwdm T n wa mo i a).2.1 = 0) : a.2.1 = 0 ∧ 1 ≤ pwdn T n mo a ∧ pwdn T n mo a ≤ mo := by
  have h1 : (pwd0 T n a).2.1 = 0 := h
  have h2 := pwdn_at (T := T) (n := n) (most := mo) (a := a)
  have e : pwdn T n mo a = pwr T n mo a.1 := zif_t h1
  by_cases c : a.2.1 = 0 ∧ ¬ pisL T n a.1
  · rw [show pwd0 T n a = pbad 1 a from zif_t c] at h1; exact absurd h1 pbad_nz
  · rw [show pwd0 T n a = a from zif_f c] at h1
    have hL : pisL T n a.1 := Classical.byContradiction fun z => c ⟨h1, z⟩
    refine ⟨h1, ?_, h2.1⟩
    obtain ⟨f, rfl⟩ : ∃ f, mo = f + 1 := ⟨mo - 1, by omega⟩
    rw [e]
    show 1 ≤ zif _ _ _
    rw [zif_t hL]
    omega
/-- a sort as it was read: its letters are told -/
def sP (F : Nat → Nat) (td y : Nat) : Prop := 1 ≤ bkd F y ∧ bkd F y ≤ 5 ∧ F (12 + 8 * y + 1) ≤ 9 ∧ F (12 + 8 * y + 1 + 1) ≤ 9 ∧ 1 ≤ bwl F y ∧ bwl F y ≤ 4 ∧ ∀ i, i < bwl F y → td.testBit (F (12 + 8 * y + 4 + i)) = true
def PI (a : pS) : Prop := a.2.2.2.2 1 ≤ 3 ∧ a.2.2.2.2 2 ≤ 9 ∧ a.2.2.2.2 0 ≤ 4 ∧ ∀ y, y < a.2.2.2.2 0 → sP a.2.2.2.2 a.2.2.2.1 y
theorem sP.mono {F G : Nat → Nat} {td te y : Nat} (h : sP F td y) (hF : ∀ j, 12 + 8 * y ≤ j → j < 12 + 8 * y + 8 → G j = F j) (ht : ∀ b, td.testBit b = true → te.testBit b = true) : sP G te y := by
  have hw := h.2.2.2.2.2.1
  have e1 : bkd G y = bkd F y := hF _ (by omega) (by omega)
  have e2 : bwl G y = bwl F y := hF _ (by omega) (by omega)
  refine ⟨by rw [e1]; exact h.1, by rw [e1]; exact h.2.1, by rw [hF _ (by omega) (by omega)]; exact h.2.2.1, by rw [hF _ (by omega) (by omega)]; exact h.2.2.2.1, by rw [e2]; exact h.2.2.2.2.1, by rw [e2]; exact hw, fun i hi => ?_⟩
  rw [e2] at hi
  rw [hF _ (by omega) (by omega)]
  exact ht _ (h.2.2.2.2.2.2 i hi)
theorem pwdm_at {T : Nat → Nat} {n wa mo i : Nat} {a : pS} (hi : i < wa) : (∀ j, j ≠ i → (j < wa ∨ wa + mo ≤ j) → (pwdm T n wa mo i a).2.2.2.2 j = a.2.2.2.2 j) ∧ (pwdm T n wa mo i a).2.2.2.2 i = pwdn T n mo a ∧ (∀ k, k < pwdn T n mo a → (pwdm T n wa mo i a).2.2.2.1.testBit ((pwdm T n wa mo i a).2.2.2.2 (wa + k)) = true) ∧ ∀ b, a.2.2.2.1.testBit b = true → (pwdm T n wa mo i a).2.2.2.1.testBit b = true := by
  have hw := (pwdn_at (T := T) (n := n) (most := mo) (a := a)).1
  have eF : (pwdm T n wa mo i a).2.2.2.2 = va_up (va_cpy (fun q => T (a.1 + q) - 97) a.2.2.2.2 0 wa (pwdn T n mo a)) i (pwdn T n mo a) := rfl
  have eT : (pwdm T n wa mo i a).2.2.2.1 = zor (fun q => 2 ^ (T (a.1 + q) - 97)) a.2.2.2.1 (pwdn T n mo a) := rfl
  rw [eF, eT]
  refine ⟨fun j h1 h2 => ?_, va_up_self _ _ _, fun k hk => ?_, fun b hb => zor_bit.mpr (Or.inl hb)⟩
  · rw [va_up_ne _ _ h1]
    unfold va_cpy
    rw [if_neg (by omega)]
  · rw [va_up_ne _ _ (by omega), zcpy_in (by omega) (by omega), show 0 + (wa + k - wa) = k by omega]
    exact zor_bit.mpr (Or.inr ⟨k, hk, Nat.testBit_two_pow_self⟩)
theorem pfgm_at {T : Nat → Nat} {n lo hi i : Nat} {a : pS} : (∀ j, j ≠ i → (pfgm T n lo hi i a).2.2.2.2 j = a.2.2.2.2 j) ∧ (pfgm T n lo hi i a).2.2.2.2 i = pfgv T n lo hi a ∧ (pfgm T n lo hi i a).2.2.2.1 = a.2.2.2.1 := by
  have eF : (pfgs T n lo hi a).2.2.2 = a.2.2.2 := by unfold pfgs; rw [pgo_F, pfig_F]
  refine ⟨fun j hj => ?_, va_up_self _ _ _, ?_⟩
  · show va_up (pfgs T n lo hi a).2.2.2.2 i _ j = _
    rw [va_up_ne _ _ hj, eF]
  · show (pfgs T n lo hi a).2.2.2.1 = _
    rw [eF]
theorem psrs_ok {T : Nat → Nat} {n : Nat} {a : pS} (h : (psrs T n a).2.1 = 0) (hP : PI a) : PI (psrs T n a) ∧ (psrs T n a).2.2.2.2 0 = a.2.2.2.2 0 + 1 := by
  by_cases c : 0 < (psr0 T n a).2.1
  · rw [show psrs T n a = psr0 T n a from zif_t c] at h; omega
  have e : psrs T n a = pset 0 ((psr2 T n (12 + 8 * a.2.2.2.2 0) (psr1 T n a)).2.2.2.2 0 + 1) (psr2 T n (12 + 8 * a.2.2.2.2 0) (psr1 T n a)) := zif_f c
  have hk : ¬ pknd T n a.1 = 0 := fun z => c (by unfold psr0; rw [zif_t z]; exact Nat.pos_of_ne_zero pbad_nz)
  have h4 : ¬ a.2.2.2.2 0 = 4 := fun z => c (by unfold psr0; rw [zif_f hk, zif_t z]; exact Nat.pos_of_ne_zero pbad_nz)
  have hk5 := pknd_le T n a.1
  rw [e] at h ⊢
  have h7 : (psr2 T n (12 + 8 * a.2.2.2.2 0) (psr1 T n a)).2.1 = 0 := h
  have hF0 : (psr2 T n (12 + 8 * a.2.2.2.2 0) (psr1 T n a)).2.2.2.2 0 = a.2.2.2.2 0 := psr2_F0.trans psr1_F0
  rw [hF0]
  generalize hx : a.2.2.2.2 0 = x at *
  have hx4 : x ≤ 4 := by rw [← hx]; exact hP.2.2.1
  -- the steps
  unfold psr2 at h7 ⊢
  have q1 : ∀ j, j ≠ 12 + 8 * x → (psr1 T n a).2.2.2.2 j = a.2.2.2.2 j := fun j hj => by unfold psr1 pset; rw [hx]; exact va_up_ne _ _ hj
  have q1s : (psr1 T n a).2.2.2.2 (12 + 8 * x) = pknd T n a.1 := by unfold psr1 pset; rw [hx]; exact va_up_self _ _ _
  have q1t : (psr1 T n a).2.2.2.1 = a.2.2.2.1 := rfl
  generalize psr1 T n a = a1 at q1 q1s q1t h7 ⊢
  have h6 := psgn_ok h7
  have o6 := pwdm_ok (by decide) h6
  have h5 := psgn_ok o6.1
  have o4 := pfgm_ok h5
  have h3 := psgn_ok o4.1
  have o2 := pfgm_ok h3
  have t2 := pfgm_at (T := T) (n := n) (lo := 0) (hi := 9) (i := 12 + 8 * x + 1) (a := a1)
  have s3 := psgn_F (T := T) (n := n) (c := 44) (a := pfgm T n 0 9 (12 + 8 * x + 1) a1)
  generalize pfgm T n 0 9 (12 + 8 * x + 1) a1 = a2 at *
  generalize psgn T n 44 a2 = a3 at *
  have t4 := pfgm_at (T := T) (n := n) (lo := 0) (hi := 9) (i := 12 + 8 * x + 2) (a := a3)
  have s5 := psgn_F (T := T) (n := n) (c := 44) (a := pfgm T n 0 9 (12 + 8 * x + 2) a3)
  generalize pfgm T n 0 9 (12 + 8 * x + 2) a3 = a4 at *
  generalize psgn T n 44 a4 = a5 at *
  have t6 := pwdm_at (T := T) (n := n) (wa := 12 + 8 * x + 4) (mo := 4) (i := 12 + 8 * x + 3) (a := a5) (by omega)
  have s7 := psgn_F (T := T) (n := n) (c := 59) (a := pwdm T n (12 + 8 * x + 4) 4 (12 + 8 * x + 3) a5)
  generalize pwdm T n (12 + 8 * x + 4) 4 (12 + 8 * x + 3) a5 = a6 at *
  generalize psgn T n 59 a6 = a7 at *
  have F7 : a7.2.2.2.2 = a6.2.2.2.2 := by rw [s7]
  have T7 : a7.2.2.2.1 = a6.2.2.2.1 := by rw [s7]
  have F5 : a5.2.2.2.2 = a4.2.2.2.2 := by rw [s5]
  have T5 : a5.2.2.2.1 = a4.2.2.2.1 := by rw [s5]
  have F3 : a3.2.2.2.2 = a2.2.2.2.2 := by rw [s3]
  have T3 : a3.2.2.2.1 = a2.2.2.2.1 := by rw [s3]
  have out : ∀ j, (j < 12 + 8 * x ∨ 12 + 8 * x + 8 ≤ j) → a7.2.2.2.2 j = a.2.2.2.2 j := fun j hj => by
    rw [F7, t6.1 j (by omega) (by omega), F5, t4.1 j (by omega), F3, t2.1 j (by omega), q1 j (by omega)]
  have ek : a7.2.2.2.2 (12 + 8 * x) = pknd T n a.1 := by rw [F7, t6.1 _ (by omega) (by omega), F5, t4.1 _ (by omega), F3, t2.1 _ (by omega), q1s]
  have e1 : a7.2.2.2.2 (12 + 8 * x + 1) ≤ 9 := by rw [F7, t6.1 _ (by omega) (by omega), F5, t4.1 _ (by omega), F3, t2.2.1]; exact o2.2.2
  have e2 : a7.2.2.2.2 (12 + 8 * x + 2) ≤ 9 := by rw [F7, t6.1 _ (by omega) (by omega), F5, t4.2.1]; exact o4.2.2
  have e3 : a7.2.2.2.2 (12 + 8 * x + 3) = pwdn T n 4 a5 := by rw [F7, t6.2.1]
  have tb : ∀ b, a.2.2.2.1.testBit b = true → a7.2.2.2.1.testBit b = true := fun b hb => by
    rw [T7]
    apply t6.2.2.2
    rw [T5, t4.2.2, T3, t2.2.2, q1t]
    exact hb
  have oz : ∀ j, j ≠ 0 → va_up a7.2.2.2.2 0 (x + 1) j = a7.2.2.2.2 j := fun j hj => va_up_ne _ _ hj
  have z0 : (pset 0 (x + 1) a7).2.2.2.2 0 = x + 1 := by
    show va_up a7.2.2.2.2 0 (x + 1) 0 = x + 1
    exact va_up_self _ _ _
  refine ⟨⟨?_, ?_, by rw [z0]; omega, fun y hy => ?_⟩, z0⟩
  · show va_up a7.2.2.2.2 0 (x + 1) 1 ≤ 3
    rw [oz 1 (by omega), out 1 (by omega)]; exact hP.1
  · show va_up a7.2.2.2.2 0 (x + 1) 2 ≤ 9
    rw [oz 2 (by omega), out 2 (by omega)]; exact hP.2.1
  · rw [z0] at hy
    show sP (va_up a7.2.2.2.2 0 (x + 1)) a7.2.2.2.1 y
    by_cases q : y = x
    · subst q
      unfold sP bkd bwl
      rw [oz _ (by omega), oz _ (by omega), oz _ (by omega), oz _ (by omega), ek, e3]
      refine ⟨by omega, hk5, e1, e2, o6.2.1, o6.2.2, fun i hi => ?_⟩
      rw [oz _ (by omega), F7, T7]
      exact t6.2.2.1 i hi
    · exact (hP.2.2.2 y (by rw [hx]; omega)).mono (fun j hj1 hj2 => by rw [oz j (by omega), out j (by omega)]) tb
theorem psos_ok {T : Nat → Nat} {n : Nat} : ∀ f (a : pS), (psos T n f a).2.1 = 0 → PI a → PI (psos T n f a) ∧ a.2.2.2.2 0 ≤ (psos T n f a).2.2.2.2 0 := by
  intro f
  induction f with
  | zero => exact fun a _ hP => ⟨hP, Nat.le_refl _⟩
  | succ f ih =>
    intro a h hP
    by_cases c : a.2.1 = 0 ∧ ¬ pisX T n 120 a.1
    · rw [show psos T n (f + 1) a = psos T n f (psrs T n a) from zif_t c] at h ⊢
      have h1 : (psrs T n a).2.1 = 0 := by
        cases f with
        | zero => exact h
        | succ g =>
          by_cases d : (psrs T n a).2.1 = 0 ∧ ¬ pisX T n 120 (psrs T n a).1
          · exact d.1
          · rw [show psos T n (g + 1) (psrs T n a) = psrs T n a from zif_f d] at h; exact h
      have h2 := psrs_ok h1 hP
      have h3 := ih _ h h2.1
      exact ⟨h3.1, by omega⟩
    · rw [show psos T n (f + 1) a = a from zif_f c]
      exact ⟨hP, Nat.le_refl _⟩
theorem pbk0_ok {T : Nat → Nat} {n : Nat} (h : (pbk0 T n).2.1 = 0) : PI (pbk0 T n) ∧ (pbk0 T n).2.2.2.2 0 = 0 := by
  unfold pbk0 at h ⊢
  have o4 := pfgm_ok (psgn_ok h)
  have o2 := pfgm_ok (psgn_ok o4.1)
  have s1 := pmust_F (T := T) (n := n) (P := pisX T n 114 0) (a := (0, 0, nI 0, 0, fun _ => 0))
  generalize pmust T n (pisX T n 114 0) (0, 0, nI 0, 0, fun _ => 0) = a1 at *
  have t2 := pfgm_at (T := T) (n := n) (lo := 0) (hi := 3) (i := 1) (a := a1)
  have s3 := psgn_F (T := T) (n := n) (c := 44) (a := pfgm T n 0 3 1 a1)
  generalize pfgm T n 0 3 1 a1 = a2 at *
  generalize psgn T n 44 a2 = a3 at *
  have t4 := pfgm_at (T := T) (n := n) (lo := 1) (hi := 9) (i := 2) (a := a3)
  have s5 := psgn_F (T := T) (n := n) (c := 59) (a := pfgm T n 1 9 2 a3)
  generalize pfgm T n 1 9 2 a3 = a4 at *
  generalize psgn T n 59 a4 = a5 at *
  have F5 : a5.2.2.2.2 = a4.2.2.2.2 := by rw [s5]
  have F3 : a3.2.2.2.2 = a2.2.2.2.2 := by rw [s3]
  have F1 : a1.2.2.2.2 = fun _ => 0 := by rw [s1]
  have z0 : a5.2.2.2.2 0 = 0 := by rw [F5, t4.1 0 (by decide), F3, t2.1 0 (by decide), F1]
  refine ⟨⟨?_, ?_, by rw [z0]; decide, fun y hy => by rw [z0] at hy; omega⟩, z0⟩
  · rw [F5, t4.1 1 (by decide), F3, t2.2.1]; exact o2.2.2
  · rw [F5, t4.2.1]; exact o4.2.2
theorem pbk1_ok {T : Nat → Nat} {n : Nat} (h : (pbk1 T n).2.1 = 0) : PI (pbk1 T n) ∧ 0 < (pbk1 T n).2.2.2.2 0 := by
  by_cases c : (pbk0 T n).2.1 = 0
  · have e : pbk1 T n = psos T n 4 (psrs T n (pbk0 T n)) := zif_t c
    have h0 := pbk0_ok c
    rw [e] at h ⊢
    have h1 : (psrs T n (pbk0 T n)).2.1 = 0 := by
      by_cases d : (psrs T n (pbk0 T n)).2.1 = 0 ∧ ¬ pisX T n 120 (psrs T n (pbk0 T n)).1
      · exact d.1
      · rw [show psos T n 4 (psrs T n (pbk0 T n)) = psrs T n (pbk0 T n) from zif_f d] at h; exact h
    have h2 := psrs_ok h1 h0.1
    have h3 := psos_ok 4 _ h h2.1
    exact ⟨h3.1, by omega⟩
  · rw [show pbk1 T n = pbk0 T n from zif_f c] at h; exact absurd h c
theorem pbk_ok {T : Nat → Nat} {n : Nat} (h : (pbk T n).2.1 = 0) : bOK (pbk T n).2.2.2.2 ∧ 0 < (pbk T n).2.2.2.2 0 := by
  have ht : (pbk3 T n).2.2.2.1 / 2 ^ (pbk3 T n).2.2.2.2 0 = 0 := Classical.byContradiction fun z => by
    rw [show pbk T n = pbad 4 (pbk3 T n) from zif_f z] at h; exact absurd h pbad_nz
  have e : pbk T n = pbk3 T n := zif_t ht
  rw [e] at h ⊢
  have hk : tkK T n (pbk2 T n).1 = 1 := Classical.byContradiction fun z => by
    rw [show pbk3 T n = pbad 1 (pbk2 T n) from zif_f z] at h; exact absurd h pbad_nz
  have e3 : pbk3 T n = pbk2 T n := zif_t hk
  rw [e3] at h ht ⊢
  unfold pbk2 at h ht ⊢
  have o6 := pwdm_ok (by decide) (psgn_ok h)
  have o1 := pmust_ok o6.1
  have hP := pbk1_ok o1.1
  have s5 := pmust_F (T := T) (n := n) (P := pisX T n 120 (pbk1 T n).1) (a := pbk1 T n)
  generalize pmust T n (pisX T n 120 (pbk1 T n).1) (pbk1 T n) = a5 at *
  generalize pbk1 T n = a at *
  have t6 := pwdm_at (T := T) (n := n) (wa := 4) (mo := 8) (i := 3) (a := a5) (by decide)
  have s7 := psgn_F (T := T) (n := n) (c := 59) (a := pwdm T n 4 8 3 a5)
  generalize pwdm T n 4 8 3 a5 = a6 at *
  generalize psgn T n 59 a6 = a7 at *
  have F7 : a7.2.2.2.2 = a6.2.2.2.2 := by rw [s7]
  have T7 : a7.2.2.2.1 = a6.2.2.2.1 := by rw [s7]
  have F5 : a5.2.2.2.2 = a.2.2.2.2 := by rw [s5]
  have T5 : a5.2.2.2.1 = a.2.2.2.1 := by rw [s5]
  have out : ∀ j, j ≠ 3 → (j < 4 ∨ 12 ≤ j) → a7.2.2.2.2 j = a.2.2.2.2 j := fun j h1 h2 => by rw [F7, t6.1 j h1 (by omega), F5]
  have ew : a7.2.2.2.2 3 = pwdn T n 8 a5 := by rw [F7, t6.2.1]
  have e0 := out 0 (by decide) (by decide)
  have hlt : a7.2.2.2.1 < 2 ^ a7.2.2.2.2 0 := (Nat.div_eq_zero_iff_lt (Nat.two_pow_pos _)).mp ht
  have hb : ∀ b, a7.2.2.2.1.testBit b = true → b < a7.2.2.2.2 0 := fun b hb => Classical.byContradiction fun z => by
    rw [Nat.testBit_lt_two_pow (Nat.lt_of_lt_of_le hlt (Nat.pow_le_pow_right (by decide) (by omega)))] at hb
    cases hb
  refine ⟨⟨by rw [e0]; exact hP.1.2.2.1, by rw [out 1 (by decide) (by decide)]; exact hP.1.1, by rw [out 2 (by decide) (by decide)]; exact hP.1.2.1, by rw [ew]; exact o6.2.2, fun _ => by rw [ew]; exact o6.2.1, fun i hi => ?_, fun y hy => ?_⟩, by rw [e0]; exact hP.2⟩
  · rw [ew] at hi
    apply hb
    rw [F7, T7]
    exact t6.2.2.1 i hi
  · have h9 : sP a7.2.2.2.2 a7.2.2.2.1 y := (hP.1.2.2.2 y (by rw [← e0]; exact hy)).mono (fun j h1 h2 => out j (by omega) (by omega)) (fun b hb => by rw [T7]; exact t6.2.2.2 b (by rw [T5]; exact hb))
    exact ⟨h9.1, h9.2.1, h9.2.2.1, h9.2.2.2.1, h9.2.2.2.2.1, h9.2.2.2.2.2.1, fun i hi => hb _ (h9.2.2.2.2.2.2 i hi)⟩
theorem pbk_F4 {T : Nat → Nat} {n : Nat} (hn : n ≤ 120) (hT : ∀ j, T j < 256) : PO T n (pbk T n) := by
  have h0 : PO T n (pbk0 T n) := by
    unfold pbk0
    exact (((((PO.must (⟨Nat.zero_le _, hn, hT, by decide, by decide, by decide⟩ : PO T n (0, 0, nI 0, 0, fun _ => 0))).fgm (by decide)).sgn).fgm (by decide)).sgn)
  have hs : ∀ f a, PO T n a → PO T n (psos T n f a) := by
    intro f
    induction f with
    | zero => exact fun a h => h
    | succ f ih => exact fun a h => zif_ind (fun z => PO T n z) (ih _ h.rs) h
  have h1 : PO T n (pbk1 T n) := zif_ind (fun z => PO T n z) (hs 4 _ h0.rs) h0
  have h2 : PO T n (pbk2 T n) := by
    unfold pbk2
    exact (h1.must.wdm (by decide) (by decide)).sgn
  have h3 : PO T n (pbk3 T n) := zif_ind (fun z => PO T n z) h2 (h2.bad (by decide))
  exact zif_ind (fun z => PO T n z) h3 (h3.bad (by decide))
theorem SI.book {S : zS} (h : SI S) : SI (opBook S).2 := by
  obtain ⟨i1, i2, i3, i4, i5, i6, i7, i8, i9, i10, i11, i12⟩ := h
  have hO := pbk_F4 i4 i10
  unfold opBook
  refine zif_dep (fun z : Int32 × zS => SI z.2) (fun c => ?_) (fun c => ?_)
  · exact ⟨i1, i2, i3, Nat.zero_le _, hO.2.2.2.1, i6, i7, i8, i9, i10, i11, i12⟩
  · have hk := pbk_ok (T := S.2.1 11) (n := S.1 12) (by omega)
    exact ⟨hk.1, i2, Nat.zero_le _, Nat.zero_le _, i5, i6, i7, fun i hi => absurd hi (Nat.not_lt_zero _), i9, i10, fun i hi => absurd hi (Nat.not_lt_zero _), fun hi => absurd hi (Nat.lt_irrefl 0)⟩
theorem acts_book {S : zS} : (opBook S).2.1 8 ≤ S.1 8 + 1 := by
  unfold opBook
  exact zif_ind (fun z : Int32 × zS => z.2.1 8 ≤ S.1 8 + 1) (Nat.le_succ _) (Nat.zero_le _)
