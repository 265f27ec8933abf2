theorem pbad_F {k : Nat} {a : pS} : (pbad k a).2.2.2 = a.2.2.2 := by
  unfold pbad
  exact zif_ind (fun z : pS => z.2.2.2 = a.2.2.2) rfl rfl
theorem pbad_id {k : Nat} {a : pS} (h : ¬ a.2.1 = 0) : pbad k a = a := zif_f h
theorem pgo_F {T : Nat → Nat} {n : Nat} {a : pS} : (pgo T n a).2.2.2 = a.2.2.2 := by
  unfold pgo
  exact zif_ind (fun z : pS => z.2.2.2 = a.2.2.2) rfl rfl
theorem pmust_F {T : Nat → Nat} {n : Nat} {P : Prop} {a : pS} : (pmust T n P a).2.2.2 = a.2.2.2 := by
  unfold pmust
  rw [pgo_F]
  exact zif_ind (fun z : pS => z.2.2.2 = a.2.2.2) rfl pbad_F
theorem pfig_F {T : Nat → Nat} {n lo hi : Nat} {a : pS} : (pfig T n lo hi a).2.2.2 = a.2.2.2 := by
  unfold pfig
  exact zif_ind (fun z : pS => z.2.2.2 = a.2.2.2) (zif_ind (fun z : pS => z.2.2.2 = a.2.2.2) (zif_ind (fun z : pS => z.2.2.2 = a.2.2.2) rfl pbad_F) pbad_F) rfl
theorem pfgm_F0 {T : Nat → Nat} {n lo hi i : Nat} {a : pS} (h : i ≠ 0) : (pfgm T n lo hi i a).2.2.2.2 0 = a.2.2.2.2 0 := by
  show va_up (pfgs T n lo hi a).2.2.2.2 i _ 0 = _
  rw [va_up_ne _ _ (fun z => h z.symm)]
  unfold pfgs
  rw [pgo_F, pfig_F]
theorem psgn_F {T : Nat → Nat} {n c : Nat} {a : pS} : (psgn T n c a).2.2.2 = a.2.2.2 := pmust_F
theorem pwdm_F0 {T : Nat → Nat} {n wa mo i : Nat} {a : pS} (h : i ≠ 0) (hw : 0 < wa) : (pwdm T n wa mo i a).2.2.2.2 0 = a.2.2.2.2 0 := by
  show va_up (pwds T n wa mo a).2.2.2.2 i _ 0 = _
  rw [va_up_ne _ _ (fun z => h z.symm)]
  rw [show (pwds T n wa mo a).2.2.2.2 = va_cpy (fun q => T (a.1 + q) - 97) a.2.2.2.2 0 wa (pwdn T n mo a) from rfl]
  unfold va_cpy
  rw [if_neg (by omega)]
theorem psr2_F0 {T : Nat → Nat} {n x : Nat} {a : pS} : (psr2 T n x a).2.2.2.2 0 = a.2.2.2.2 0 := by
  unfold psr2
  rw [psgn_F, pwdm_F0 (by omega) (by omega), psgn_F, pfgm_F0 (by omega), psgn_F, pfgm_F0 (by omega)]
theorem psr1_F0 {T : Nat → Nat} {n : Nat} {a : pS} : (psr1 T n a).2.2.2.2 0 = a.2.2.2.2 0 := va_up_ne _ _ (by omega)
theorem PO.rs {T : Nat → Nat} {n : Nat} {a : pS} (h : PO T n a) : PO T n (psrs T n a) := by
  have h0 : PO T n (psr0 T n a) := by
    unfold psr0
    exact zif_ind (fun z => PO T n z) (h.bad (by decide)) (zif_ind (fun z => PO T n z) (h.bad (by decide)) h)
  have h1 : PO T n (psr1 T n a) := h.nxt.set (Or.inl (by omega))
  by_cases c : 0 < (psr0 T n a).2.1
  · rw [show psrs T n a = psr0 T n a from zif_t c]; exact h0
  · rw [show psrs T n a = _ from zif_f c]
    refine PO.set ((((((h1.fgm (by omega)).sgn).fgm (by omega)).sgn).wdm (by omega) (by omega)).sgn) (Or.inr ?_)
    rw [psr2_F0, psr1_F0]
    have h4 := h.2.2.2.2.2
    apply Classical.byContradiction
    intro q
    apply c
    have e4 : a.2.2.2.2 0 = 4 := by omega
    unfold psr0
    rw [zif_t e4]
    exact zif_ind (fun z : pS => 0 < z.2.1) (Nat.pos_of_ne_zero pbad_nz) (Nat.pos_of_ne_zero pbad_nz)
/-- what is left to do at the head of the loop over sorts, in round k -/
noncomputable def prem (T : Nat → Nat) (n : Nat) : Nat → pS → pS
  | 0, b => zif (b.2.1 = 0) (psos T n 4 (psrs T n b)) b
  | k + 1, b => psos T n (4 - k) b
theorem prem_end {T : Nat → Nat} {n k : Nat} {b : pS} (h : ¬ b.2.1 = 0) : prem T n k b = b := by
  cases k with
  | zero => exact zif_f h
  | succ k =>
    show psos T n (4 - k) b = b
    cases 4 - k with
    | zero => rfl
    | succ f => exact zif_f (fun z => h z.1)
theorem prem_5 {T : Nat → Nat} {n k : Nat} {b : pS} (h : 5 ≤ k) : prem T n k b = b := by
  obtain ⟨j, rfl⟩ : ∃ j, k = j + 1 := ⟨k - 1, by omega⟩
  show psos T n (4 - j) b = b
  rw [show 4 - j = 0 by omega]
  rfl
theorem prem_x {T : Nat → Nat} {n k : Nat} {b : pS} (hk : 0 < k) (h : pisX T n 120 b.1) : prem T n k b = b := by
  obtain ⟨j, rfl⟩ : ∃ j, k = j + 1 := ⟨k - 1, by omega⟩
  show psos T n (4 - j) b = b
  cases 4 - j with
  | zero => rfl
  | succ f => exact zif_f (fun z => z.2 h)
theorem prem_s {T : Nat → Nat} {n k : Nat} {b : pS} (h4 : k ≤ 4) (h : b.2.1 = 0) (hx : k = 0 ∨ ¬ pisX T n 120 b.1) : prem T n k b = prem T n (k + 1) (psrs T n b) := by
  cases k with
  | zero => exact zif_t h
  | succ j =>
    show psos T n (4 - j) b = psos T n (4 - (j + 1)) (psrs T n b)
    rw [show 4 - j = 4 - (j + 1) + 1 by omega]
    exact zif_t ⟨h, hx.resolve_left (by omega)⟩
theorem pknd_le (T : Nat → Nat) (n s : Nat) : pknd T n s ≤ 5 := by
  unfold pknd psrt
  exact zif_ind (fun z => z ≤ 5) (zif_ind (fun z => z ≤ 5) (by decide) (zif_ind (fun z => z ≤ 5) (by decide) (zif_ind (fun z => z ≤ 5) (by decide) (zif_ind (fun z => z ≤ 5) (by decide) (zif_ind (fun z => z ≤ 5) (by decide) (by decide)))))) (by decide)
theorem zif_same {α : Type} {P : Prop} {a b : α} (h : b = a) : zif P a b = a := by
  rw [h]
  exact zif_ind (fun z => z = a) rfl rfl
theorem zshr {a b : Nat} (ha : a < 16) (hb : b ≤ 4) : nI a >>> (nI b &&& 31) = nI (a / 2 ^ b) := by
  have h : ∀ a, a < 16 → ∀ b, b < 5 → nI a >>> (nI b &&& 31) = nI (a / 2 ^ b) := by decide +kernel
  exact h a ha b (by omega)
