/-! a text read: tokens by where they begin -/
def tkd (T : Nat → Nat) (n k : Nat) : Prop := k < n ∧ 48 ≤ T k ∧ T k ≤ 57
noncomputable def trun (T : Nat → Nat) (n : Nat) : Nat → Nat → Nat
  | 0, _ => 0
  | f + 1, s => zif (tkd T n s) (trun T n f (s + 1) + 1) 0
noncomputable def tlen (T : Nat → Nat) (n s : Nat) : Nat := trun T n n s
noncomputable def tval (T : Nat → Nat) (s m : Nat) : Nat := zif (m = 1) (T s - 48) (10 * (T s - 48) + (T (s + 1) - 48))
noncomputable def tkE (T : Nat → Nat) (n s : Nat) : Nat := zif (s < n) (zif (tkd T n s) (s + tlen T n s) (s + 1)) s
noncomputable def tkV (T : Nat → Nat) (n s : Nat) : Int32 := zif (s < n) (zif (tkd T n s) (nI (tval T s (tlen T n s))) (nI (T s))) (-1000000)
/-- 1: the end, 2: a letter, 3: a number, 4: a sign, 0: strange -/
noncomputable def tkK (T : Nat → Nat) (n s : Nat) : Nat := zif (s < n) (zif (tkd T n s) (zif (2 < tlen T n s) 0 3) (zif (97 ≤ T s ∧ T s ≤ 122) 2 (zif (T s = 44 ∨ T s = 59) 4 0))) 1
theorem trun_at {T : Nat → Nat} {n : Nat} : ∀ f s, n ≤ s + f → (∀ j, j < trun T n f s → tkd T n (s + j)) ∧ ¬ tkd T n (s + trun T n f s) ∧ (s ≤ n → s + trun T n f s ≤ n) := by
  intro f
  induction f with
  | zero => intro s h; exact ⟨fun j hj => absurd hj (Nat.not_lt_zero _), fun z => by have := z.1; unfold trun at this; omega, fun z => z⟩
  | succ f ih =>
    intro s h
    show (∀ j, j < zif _ _ _ → _) ∧ ¬ tkd T n (s + zif _ _ _) ∧ (s ≤ n → s + zif _ _ _ ≤ n)
    by_cases c : tkd T n s
    · rw [zif_t c]
      obtain ⟨h1, h2, h3⟩ := ih (s + 1) (by omega)
      refine ⟨fun j hj => ?_, by rw [show s + (trun T n f (s + 1) + 1) = s + 1 + trun T n f (s + 1) by omega]; exact h2, fun _ => by have := h3 (by have := c.1; omega); omega⟩
      by_cases q : j = 0
      · rw [q]; exact c
      · have := h1 (j - 1) (by omega)
        rw [show s + 1 + (j - 1) = s + j by omega] at this
        exact this
    · rw [zif_f c]
      exact ⟨fun j hj => absurd hj (Nat.not_lt_zero _), c, fun z => z⟩
theorem tlen_at {T : Nat → Nat} {n s : Nat} : (∀ j, j < tlen T n s → tkd T n (s + j)) ∧ ¬ tkd T n (s + tlen T n s) ∧ (s ≤ n → s + tlen T n s ≤ n) := trun_at n s (by omega)
theorem tlen_pos {T : Nat → Nat} {n s : Nat} (h : tkd T n s) : 1 ≤ tlen T n s := by
  have h2 := (tlen_at (T := T) (n := n) (s := s)).2.1
  by_cases q : tlen T n s = 0
  · rw [q] at h2; exact absurd h h2
  · omega
theorem tlen_lt {T : Nat → Nat} {n s k : Nat} (hk : k ≤ tlen T n s) : tkd T n (s + k) ↔ k < tlen T n s := by
  constructor
  · intro z
    by_cases q : k = tlen T n s
    · rw [q] at z; exact absurd z tlen_at.2.1
    · omega
  · intro z; exact tlen_at.1 k z
theorem tkE_le {T : Nat → Nat} {n s : Nat} (h : s ≤ n) : tkE T n s ≤ n := by
  unfold tkE
  by_cases c : s < n
  · rw [zif_t c]
    by_cases d : tkd T n s
    · rw [zif_t d]; exact tlen_at.2.2 h
    · rw [zif_f d]; omega
  · rw [zif_f c]; exact h
abbrev pS : Type := Nat × Nat × Int32 × Nat × (Nat → Nat)
noncomputable def pbad (k : Nat) (a : pS) : pS := zif (a.2.1 = 0) (a.1, k, nI a.1, a.2.2.2) a
noncomputable def pnxt (T : Nat → Nat) (n : Nat) (a : pS) : pS := (tkE T n a.1, a.2)
noncomputable def pgo (T : Nat → Nat) (n : Nat) (a : pS) : pS := zif (a.2.1 = 0) (pnxt T n a) a
noncomputable def pmust (T : Nat → Nat) (n : Nat) (P : Prop) (a : pS) : pS := pgo T n (zif P a (pbad 1 a))
noncomputable def pfig (T : Nat → Nat) (n lo hi : Nat) (a : pS) : pS := zif (a.2.1 = 0) (zif (tkK T n a.1 = 3) (zif (zIn (tkV T n a.1) lo hi) a (pbad 2 a)) (pbad 1 a)) a
noncomputable def pfgv (T : Nat → Nat) (n lo hi : Nat) (a : pS) : Nat := zif ((pfig T n lo hi a).2.1 = 0) (zn (tkV T n a.1)) lo
noncomputable def pfgs (T : Nat → Nat) (n lo hi : Nat) (a : pS) : pS := pgo T n (pfig T n lo hi a)
noncomputable def psgn (T : Nat → Nat) (n c : Nat) (a : pS) : pS := pmust T n (tkK T n a.1 = 4 ∧ tkV T n a.1 = nI c) a
def pisL (T : Nat → Nat) (n s : Nat) : Prop := tkK T n s = 2 ∧ zIn (tkV T n s) 97 100
noncomputable def pwr (T : Nat → Nat) (n : Nat) : Nat → Nat → Nat
  | 0, _ => 0
  | f + 1, s => zif (pisL T n s) (pwr T n f (s + 1) + 1) 0
noncomputable def pwd0 (T : Nat → Nat) (n : Nat) (a : pS) : pS := zif (a.2.1 = 0 ∧ ¬ pisL T n a.1) (pbad 1 a) a
noncomputable def pwdn (T : Nat → Nat) (n most : Nat) (a : pS) : Nat := zif ((pwd0 T n a).2.1 = 0) (pwr T n most a.1) 0
noncomputable def pwds (T : Nat → Nat) (n at_ most : Nat) (a : pS) : pS := ((pwd0 T n a).1 + pwdn T n most a, (pwd0 T n a).2.1, (pwd0 T n a).2.2.1, zor (fun q => 2 ^ (T (a.1 + q) - 97)) a.2.2.2.1 (pwdn T n most a), va_cpy (fun q => T (a.1 + q) - 97) a.2.2.2.2 0 at_ (pwdn T n most a))
noncomputable def psrt (v : Int32) : Nat := zif (v = nI 112) 1 (zif (v = nI 109) 2 (zif (v = nI 108) 3 (zif (v = nI 102) 4 (zif (v = nI 115) 5 0))))
noncomputable def pknd (T : Nat → Nat) (n s : Nat) : Nat := zif (tkK T n s = 2) (psrt (tkV T n s)) 0
/-- a number is told -/
def pset (i v : Nat) (a : pS) : pS := (a.1, a.2.1, a.2.2.1, a.2.2.2.1, va_up a.2.2.2.2 i v)
noncomputable def psr0 (T : Nat → Nat) (n : Nat) (a : pS) : pS := zif (pknd T n a.1 = 0) (pbad 1 a) (zif (a.2.2.2.2 0 = 4) (pbad 3 a) a)
noncomputable def psr1 (T : Nat → Nat) (n : Nat) (a : pS) : pS := pset (12 + 8 * a.2.2.2.2 0) (pknd T n a.1) (pnxt T n a)
noncomputable def pfgm (T : Nat → Nat) (n lo hi i : Nat) (a : pS) : pS := pset i (pfgv T n lo hi a) (pfgs T n lo hi a)
noncomputable def pwdm (T : Nat → Nat) (n at_ most i : Nat) (a : pS) : pS := pset i (pwdn T n most a) (pwds T n at_ most a)
noncomputable def psr2 (T : Nat → Nat) (n x : Nat) (a : pS) : pS := psgn T n 59 (pwdm T n (x + 4) 4 (x + 3) (psgn T n 44 (pfgm T n 0 9 (x + 2) (psgn T n 44 (pfgm T n 0 9 (x + 1) a)))))
noncomputable def psrs (T : Nat → Nat) (n : Nat) (a : pS) : pS := zif (0 < (psr0 T n a).2.1) (psr0 T n a) (pset 0 ((psr2 T n (12 + 8 * a.2.2.2.2 0) (psr1 T n a)).2.2.2.2 0 + 1) (psr2 T n (12 + 8 * a.2.2.2.2 0) (psr1 T n a)))
def pisX (T : Nat → Nat) (n c s : Nat) : Prop := tkK T n s = 2 ∧ tkV T n s = nI c
/-- sorts: at most as many rounds as are left -/
noncomputable def psos (T : Nat → Nat) (n : Nat) : Nat → pS → pS
  | 0, a => a
  | f + 1, a => zif (a.2.1 = 0 ∧ ¬ pisX T n 120 a.1) (psos T n f (psrs T n a)) a
noncomputable def pbk0 (T : Nat → Nat) (n : Nat) : pS := psgn T n 59 (pfgm T n 1 9 2 (psgn T n 44 (pfgm T n 0 3 1 (pmust T n (pisX T n 114 0) (0, 0, nI 0, 0, fun _ => 0)))))
noncomputable def pbk1 (T : Nat → Nat) (n : Nat) : pS := zif ((pbk0 T n).2.1 = 0) (psos T n 4 (psrs T n (pbk0 T n))) (pbk0 T n)
noncomputable def pbk2 (T : Nat → Nat) (n : Nat) : pS := psgn T n 59 (pwdm T n 4 8 3 (pmust T n (pisX T n 120 (pbk1 T n).1) (pbk1 T n)))
noncomputable def pbk3 (T : Nat → Nat) (n : Nat) : pS := zif (tkK T n (pbk2 T n).1 = 1) (pbk2 T n) (pbad 1 (pbk2 T n))
noncomputable def pbk (T : Nat → Nat) (n : Nat) : pS := zif ((pbk3 T n).2.2.2.1 / 2 ^ (pbk3 T n).2.2.2.2 0 = 0) (pbk3 T n) (pbad 4 (pbk3 T n))
noncomputable def opBook (S : zS) : Int32 × zS := zif (0 < (pbk (S.2.1 11) (S.1 12)).2.1) (-1000100 - (pbk (S.2.1 11) (S.1 12)).2.2.1, (va_up (va_up S.1 12 0) 19 (pbk (S.2.1 11) (S.1 12)).2.1, S.2)) (nI ((pbk (S.2.1 11) (S.1 12)).2.2.2.2 0), (va_up (va_up S.1 8 0) 12 0, va_up S.2.1 4 (pbk (S.2.1 11) (S.1 12)).2.2.2.2, S.2.2))
theorem tkK_le (T : Nat → Nat) (n s : Nat) : tkK T n s ≤ 4 := by
  unfold tkK
  exact zif_ind (fun z => z ≤ 4) (zif_ind (fun z => z ≤ 4) (zif_ind (fun z => z ≤ 4) (by decide) (by decide)) (zif_ind (fun z => z ≤ 4) (by decide) (zif_ind (fun z => z ≤ 4) (by decide) (by decide)))) (by decide)
/-- what holds of the state of a reading -/
def PO (T : Nat → Nat) (n : Nat) (a : pS) : Prop := a.1 ≤ n ∧ n ≤ 120 ∧ (∀ j, T j < 256) ∧ a.2.1 ≤ 4 ∧ a.2.2.2.1 < 16 ∧ a.2.2.2.2 0 ≤ 4
def PF (T : Nat → Nat) (n : Nat) (a : pS) (fi : Nat → Int32) (cn : Nat → Nat → Int32) : Prop := fi 13 = nI (tkE T n a.1) ∧ fi 14 = nI a.1 ∧ fi 15 = nI (tkK T n a.1) ∧ fi 16 = tkV T n a.1 ∧ fi 17 = nI a.2.1 ∧ (0 < a.2.1 → fi 18 = a.2.2.1) ∧ fi 20 = nI a.2.2.2.1 ∧ cn 5 = nF a.2.2.2.2 ∧ fi 12 = nI n ∧ cn 11 = nF T
theorem PO.bad {T : Nat → Nat} {n : Nat} {a : pS} (h : PO T n a) {k : Nat} (hk : k ≤ 4) : PO T n (pbad k a) := by
  unfold pbad
  exact zif_ind (fun z => PO T n z) ⟨h.1, h.2.1, h.2.2.1, hk, h.2.2.2.2⟩ h
theorem PO.nxt {T : Nat → Nat} {n : Nat} {a : pS} (h : PO T n a) : PO T n (pnxt T n a) := ⟨tkE_le h.1, h.2⟩
theorem PO.go {T : Nat → Nat} {n : Nat} {a : pS} (h : PO T n a) : PO T n (pgo T n a) := by
  unfold pgo
  exact zif_ind (fun z => PO T n z) h.nxt h
theorem PO.must {T : Nat → Nat} {n : Nat} {a : pS} (h : PO T n a) {P : Prop} : PO T n (pmust T n P a) := by
  unfold pmust
  exact PO.go (zif_ind (fun z => PO T n z) h (h.bad (by decide)))
theorem PO.sgn {T : Nat → Nat} {n : Nat} {a : pS} (h : PO T n a) {c : Nat} : PO T n (psgn T n c a) := h.must
theorem PO.fig {T : Nat → Nat} {n : Nat} {a : pS} (h : PO T n a) {lo hi : Nat} : PO T n (pfig T n lo hi a) := by
  unfold pfig
  exact zif_ind (fun z => PO T n z) (zif_ind (fun z => PO T n z) (zif_ind (fun z => PO T n z) h (h.bad (by decide))) (h.bad (by decide))) h
theorem PO.fgs {T : Nat → Nat} {n : Nat} {a : pS} (h : PO T n a) {lo hi : Nat} : PO T n (pfgs T n lo hi a) := h.fig.go
theorem PO.set {T : Nat → Nat} {n : Nat} {a : pS} (h : PO T n a) {i v : Nat} (hi : i ≠ 0 ∨ v ≤ 4) : PO T n (pset i v a) := by
  refine ⟨h.1, h.2.1, h.2.2.1, h.2.2.2.1, h.2.2.2.2.1, ?_⟩
  show va_up a.2.2.2.2 i v 0 ≤ 4
  by_cases q : i = 0
  · rw [q, va_up_self]; exact hi.resolve_left (fun z => z q)
  · rw [va_up_ne _ _ (fun z => q z.symm)]; exact h.2.2.2.2.2
theorem PO.fgm {T : Nat → Nat} {n : Nat} {a : pS} (h : PO T n a) {lo hi i : Nat} (hi0 : i ≠ 0) : PO T n (pfgm T n lo hi i a) := h.fgs.set (Or.inl hi0)
theorem pisL_at {T : Nat → Nat} {n s : Nat} (h : pisL T n s) : s < n ∧ 97 ≤ T s ∧ T s ≤ 100 ∧ tkE T n s = s + 1 ∧ tkV T n s = nI (T s) := by
  obtain ⟨h1, h2⟩ := h
  by_cases c : s < n
  · by_cases d : tkd T n s
    · unfold tkK at h1
      rw [zif_t c, zif_t d] at h1
      exact absurd h1 (zif_ind (fun z => ¬ z = 2) (by decide) (by decide))
    · have e1 : tkV T n s = nI (T s) := by unfold tkV; rw [zif_t c, zif_f d]
      have e2 : tkE T n s = s + 1 := by unfold tkE; rw [zif_t c, zif_f d]
      unfold tkK at h1
      rw [zif_t c, zif_f d] at h1
      by_cases q : 97 ≤ T s ∧ T s ≤ 122
      · rw [e1, zIn_nI (by omega)] at h2
        exact ⟨c, q.1, by omega, e2, e1⟩
      · rw [zif_f q] at h1
        exact absurd h1 (zif_ind (fun z => ¬ z = 2) (by decide) (by decide))
  · unfold tkK at h1
    rw [zif_f c] at h1
    cases h1
theorem pwr_at {T : Nat → Nat} {n : Nat} : ∀ f s, pwr T n f s ≤ f ∧ (∀ j, j < pwr T n f s → pisL T n (s + j)) ∧ (pwr T n f s < f → ¬ pisL T n (s + pwr T n f s)) := by
  intro f
  induction f with
  | zero => intro s; exact ⟨Nat.le_refl _, fun j hj => absurd hj (Nat.not_lt_zero _), fun z => absurd z (Nat.not_lt_zero _)⟩
  | succ f ih =>
    intro s
    show zif _ _ _ ≤ _ ∧ (∀ j, j < zif _ _ _ → _) ∧ (zif _ _ _ < _ → ¬ pisL T n (s + zif _ _ _))
    by_cases c : pisL T n s
    · rw [zif_t c]
      obtain ⟨h1, h2, h3⟩ := ih (s + 1)
      refine ⟨by omega, fun j hj => ?_, fun z => by rw [show s + (pwr T n f (s + 1) + 1) = s + 1 + pwr T n f (s + 1) by omega]; exact h3 (by omega)⟩
      by_cases q : j = 0
      · rw [q]; exact c
      · have := h2 (j - 1) (by omega)
        rw [show s + 1 + (j - 1) = s + j by omega] at this
        exact this
    · rw [zif_f c]
      exact ⟨Nat.zero_le _, fun j hj => absurd hj (Nat.not_lt_zero _), fun _ => c⟩
theorem pwd0_s {T : Nat → Nat} {n : Nat} {a : pS} : (pwd0 T n a).1 = a.1 ∧ (pwd0 T n a).2.2.2 = a.2.2.2 := by
  unfold pwd0 pbad
  exact zif_ind (fun z : pS => z.1 = a.1 ∧ z.2.2.2 = a.2.2.2) (zif_ind (fun z : pS => z.1 = a.1 ∧ z.2.2.2 = a.2.2.2) ⟨rfl, rfl⟩ ⟨rfl, rfl⟩) ⟨rfl, rfl⟩
theorem pwdn_at {T : Nat → Nat} {n most : Nat} {a : pS} : pwdn T n most a ≤ most ∧ ∀ j, j < pwdn T n most a → pisL T n (a.1 + j) := by
  unfold pwdn
  refine zif_ind (fun z => z ≤ most ∧ ∀ j, j < z → pisL T n (a.1 + j)) ⟨(pwr_at most a.1).1, (pwr_at most a.1).2.1⟩ ⟨Nat.zero_le _, fun j hj => absurd hj (Nat.not_lt_zero _)⟩
theorem PO.wd0 {T : Nat → Nat} {n : Nat} {a : pS} (h : PO T n a) : PO T n (pwd0 T n a) := by
  unfold pwd0
  exact zif_ind (fun z => PO T n z) (h.bad (by decide)) h
theorem PO.told {T : Nat → Nat} {n : Nat} {a : pS} (h : PO T n a) {k : Nat} (hk : ∀ j, j < k → pisL T n (a.1 + j)) : zor (fun q => 2 ^ (T (a.1 + q) - 97)) a.2.2.2.1 k < 16 :=
  zor_lt (b := 4) h.2.2.2.2.1 fun i hi => by
    have := pisL_at (hk i hi)
    exact (Nat.pow_lt_pow_right (by decide) (show T (a.1 + i) - 97 < 4 by omega) : 2 ^ (T (a.1 + i) - 97) < 2 ^ 4)
theorem PO.wds {T : Nat → Nat} {n : Nat} {a : pS} (h : PO T n a) {at_ most : Nat} (hat : 0 < at_) : PO T n (pwds T n at_ most a) := by
  have hw := h.wd0
  have h2 := pwdn_at (T := T) (n := n) (most := most) (a := a)
  have hs := pwd0_s (T := T) (n := n) (a := a)
  refine ⟨?_, h.2.1, h.2.2.1, hw.2.2.2.1, h.told h2.2, ?_⟩
  · show (pwd0 T n a).1 + pwdn T n most a ≤ n
    rw [hs.1]
    by_cases q : pwdn T n most a = 0
    · rw [q]; exact h.1
    · have := pisL_at (h2.2 (pwdn T n most a - 1) (by omega))
      omega
  · have e : (pwds T n at_ most a).2.2.2.2 = va_cpy (fun q => T (a.1 + q) - 97) a.2.2.2.2 0 at_ (pwdn T n most a) := rfl
    rw [e, show va_cpy (fun q => T (a.1 + q) - 97) a.2.2.2.2 0 at_ (pwdn T n most a) 0 = a.2.2.2.2 0 from by unfold va_cpy; rw [if_neg (by omega)]]
    exact h.2.2.2.2.2
theorem PO.wdm {T : Nat → Nat} {n : Nat} {a : pS} (h : PO T n a) {at_ most i : Nat} (hat : 0 < at_) (hi : i ≠ 0) : PO T n (pwdm T n at_ most i a) := (h.wds hat).set (Or.inl hi)
theorem tval_k {T : Nat → Nat} {s m : Nat} (h : 2 ≤ m) : tval T s (m + 1) = tval T s m := by
  unfold tval
  rw [zif_f (by omega), zif_f (by omega)]
theorem tval_s {T : Nat → Nat} {s : Nat} {k v : Nat} (h : k + 1 < 2) (hv : v = 10 * tval T s (k + 1) + (T (s + 1 + k) - 48)) : tval T s (k + 1 + 1) = v := by
  obtain rfl : k = 0 := by omega
  rw [hv]
  unfold tval
  rw [zif_f (by omega), zif_t (by omega)]
def PQ (T : Nat → Nat) (n : Nat) (a : pS) (fi : Nat → Int32) (cn : Nat → Nat → Int32) (xl : Nat → Nat → Int64) (u : mU) : Prop := PF T n a u.1 u.2.1 ∧ PO T n a ∧ u.2.2 = xl ∧ (∀ k, (k < 13 ∨ 20 < k ∨ k = 19) → u.1 k = fi k) ∧ (∀ k, k ≠ 5 → u.2.1 k = cn k)
theorem pbad_nz {k : Nat} {a : pS} : ¬ (pbad (k + 1) a).2.1 = 0 := by
  unfold pbad
  exact fun z => by
    by_cases c : a.2.1 = 0
    · rw [zif_t c] at z; cases z
    · rw [zif_f c] at z; exact c z
theorem pfgs_m (T : Nat → Nat) (n lo hi : Nat) (a : pS) : pfgs T n lo hi a = pmust T n True (pfig T n lo hi a) := by
  unfold pfgs pmust
  rw [zif_t trivial]
def wst (T : Nat → Nat) (a : pS) (wa k : Nat) : pS := (a.1 + k, a.2.1, a.2.2.1, zor (fun q => 2 ^ (T (a.1 + q) - 97)) a.2.2.2.1 k, va_cpy (fun q => T (a.1 + q) - 97) a.2.2.2.2 0 wa k)
theorem wst_0 (T : Nat → Nat) (a : pS) (wa : Nat) : wst T a wa 0 = a := by
  unfold wst
  rw [zcpy_0]
  rfl
theorem pwds_f {T : Nat → Nat} {n wa mo : Nat} {a : pS} (h : ¬ (pwd0 T n a).2.1 = 0) : pwds T n wa mo a = pwd0 T n a ∧ pwdn T n mo a = 0 := by
  have e : pwdn T n mo a = 0 := zif_f h
  refine ⟨?_, e⟩
  have h2 := pwd0_s (T := T) (n := n) (a := a)
  unfold pwds
  rw [e, zcpy_0, ← h2.2]
  rfl
theorem pwds_t {T : Nat → Nat} {n wa mo : Nat} {a : pS} (h : a.2.1 = 0) (h2 : pisL T n a.1) : pwds T n wa mo a = wst T a wa (pwr T n mo a.1) ∧ pwdn T n mo a = pwr T n mo a.1 := by
  have e0 : pwd0 T n a = a := zif_f (fun z => z.2 h2)
  have e : pwdn T n mo a = pwr T n mo a.1 := by unfold pwdn; rw [e0]; exact zif_t h
  refine ⟨?_, e⟩
  unfold pwds
  rw [e, e0]
  rfl
theorem PO.wstk {T : Nat → Nat} {n wa k : Nat} {a : pS} (h : PO T n a) (hat : 0 < wa) (hk : ∀ j, j < k → pisL T n (a.1 + j)) : PO T n (wst T a wa k) := by
  refine ⟨?_, h.2.1, h.2.2.1, h.2.2.2.1, h.told hk, ?_⟩
  · show a.1 + k ≤ n
    by_cases q : k = 0
    · rw [q]; exact h.1
    · have := pisL_at (hk (k - 1) (by omega))
      omega
  · have e : (wst T a wa k).2.2.2.2 = va_cpy (fun q => T (a.1 + q) - 97) a.2.2.2.2 0 wa k := rfl
    rw [e, show va_cpy (fun q => T (a.1 + q) - 97) a.2.2.2.2 0 wa k 0 = a.2.2.2.2 0 from by unfold va_cpy; rw [if_neg (by omega)]]
    exact h.2.2.2.2.2
