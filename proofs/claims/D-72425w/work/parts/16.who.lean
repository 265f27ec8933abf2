/-! books that are tried: one place is another number -/
theorem bkd_up {B : Nat → Nat} {i v x : Nat} (h : i ≠ 12 + 8 * x) : bkd (va_up B i v) x = bkd B x := by unfold bkd; exact va_up_ne B v (Ne.symm h)
theorem bwl_up {B : Nat → Nat} {i v x : Nat} (h : i ≠ 12 + 8 * x + 3) : bwl (va_up B i v) x = bwl B x := by unfold bwl; exact va_up_ne B v (Ne.symm h)
theorem bOK.tr {B : Nat → Nat} (h : bOK B) {i v : Nat} (hi : 4 ≤ i) (h1 : ∀ j, j < B 3 → 4 + j = i → v < B 0) (h2 : ∀ x, x < B 0 → sOK (B 0) (va_up B i v) x) : bOK (va_up B i v) := by
  have e0 : va_up B i v 0 = B 0 := va_up_ne B v (by omega)
  have e1 : va_up B i v 1 = B 1 := va_up_ne B v (by omega)
  have e2 : va_up B i v 2 = B 2 := va_up_ne B v (by omega)
  have e3 : va_up B i v 3 = B 3 := va_up_ne B v (by omega)
  refine ⟨by rw [e0]; exact h.1, by rw [e1]; exact h.2.1, by rw [e2]; exact h.2.2.1, by rw [e3]; exact h.2.2.2.1, by rw [e0, e3]; exact h.2.2.2.2.1, fun j hj => ?_, fun x hx => ?_⟩
  · rw [e3] at hj
    rw [e0]
    by_cases q : 4 + j = i
    · rw [← q, va_up_self]; exact h1 j hj q
    · rw [va_up_ne B v q]; exact h.row hj
  · rw [e0] at hx ⊢
    exact h2 x hx
theorem bOK.trRow {B : Nat → Nat} (h : bOK B) {j v : Nat} (hj : j < 8) (hv : v < B 0) : bOK (va_up B (4 + j) v) := by
  refine h.tr (by omega) (fun _ _ _ => hv) (fun x hx => ?_)
  have h2 := h.2.2.2.2.2.2 x hx
  unfold sOK at h2 ⊢
  rw [bkd_up (by omega), bwl_up (by omega), va_up_ne B v (by omega), va_up_ne B v (by omega)]
  exact ⟨h2.1, h2.2.1, h2.2.2.1, h2.2.2.2.1, h2.2.2.2.2.1, h2.2.2.2.2.2.1, fun i hi => by rw [va_up_ne B v (by omega)]; exact h2.2.2.2.2.2.2 i hi⟩
theorem bOK.trKind {B : Nat → Nat} (h : bOK B) {y v : Nat} (hy : y < B 0) (hv : 1 ≤ v) (hv5 : v ≤ 5) : bOK (va_up B (12 + 8 * y) v) := by
  have h8 := h.r8
  refine h.tr (by omega) (fun j hj e => absurd e (by omega)) (fun x hx => ?_)
  have h2 := h.2.2.2.2.2.2 x hx
  unfold sOK at h2 ⊢
  rw [bwl_up (by omega), va_up_ne B v (by omega), va_up_ne B v (by omega)]
  have hk : 1 ≤ bkd (va_up B (12 + 8 * y) v) x ∧ bkd (va_up B (12 + 8 * y) v) x ≤ 5 := by
    by_cases q : y = x
    · subst q
      unfold bkd
      rw [va_up_self]
      exact ⟨hv, hv5⟩
    · rw [bkd_up (by omega)]; exact ⟨h2.1, h2.2.1⟩
  exact ⟨hk.1, hk.2, h2.2.2.1, h2.2.2.2.1, h2.2.2.2.2.1, h2.2.2.2.2.2.1, fun i hi => by rw [va_up_ne B v (by omega)]; exact h2.2.2.2.2.2.2 i hi⟩
theorem bOK.trWord {B : Nat → Nat} (h : bOK B) {y i v : Nat} (hy : y < B 0) (hi : i < 4) (hv : v < B 0) : bOK (va_up B (12 + 8 * y + 4 + i) v) := by
  have h8 := h.r8
  refine h.tr (by omega) (fun j hj e => absurd e (by omega)) (fun x hx => ?_)
  have h2 := h.2.2.2.2.2.2 x hx
  unfold sOK at h2 ⊢
  rw [bkd_up (by omega), bwl_up (by omega), va_up_ne B v (by omega), va_up_ne B v (by omega)]
  refine ⟨h2.1, h2.2.1, h2.2.2.1, h2.2.2.2.1, h2.2.2.2.2.1, h2.2.2.2.2.2.1, fun j hj => ?_⟩
  by_cases q : 12 + 8 * x + 4 + j = 12 + 8 * y + 4 + i
  · rw [q, va_up_self]; exact hv
  · rw [va_up_ne B v q]; exact h2.2.2.2.2.2.2 j hj
/-- the row grown begins with these -/
def bso (T : Nat → Nat) (n : Nat) (f : Nat → Int32) (m : Nat) : Prop := (gok T n ∧ m ≤ (grl T n).length) ∧ ∀ k, k < m → nI ((grl T n).getD k 0) = f k
theorem nI_lF {a : Nat} (h : a < 2 ^ 31) : (-1000003 : Int32) < nI a := by
  rw [zlt, nI_toInt h, show (-1000003 : Int32).toInt = -1000003 from by decide]
  omega
/-- the place that is tried: a kind (0), a letter of the row (1), of a word (2) -/
def bpl (x i w : Nat) : Nat := if w = 0 then 12 + 8 * x else if w = 1 then 4 + i else 12 + 8 * x + 4 + i
noncomputable def bwho (B : Nat → Nat) (x i w n : Nat) (f : Nat → Int32) (m a : Nat) (k : Nat) : Nat := zor (fun j => zif (bso (va_up B (bpl x i w) (a + j)) n f m) (2 ^ (a + j)) 0) 0 k
noncomputable def opWho (S : zS) (s x w n r m : Int32) : Int32 × zS := zif (zIn s 0 ((S.2.1 4 0 : Nat) - 1 : Int)) (zif (zIn w 0 2) (zif (zIn n 0 6) (zif (zIn r 0 7) (zif (zIn m 1 40) (zif (0 < zn w ∧ ¬ zIn x 0 ((zif (zn w = 1) (S.2.1 4 3) (bwl (S.2.1 4) (zn s)) : Nat) - 1 : Int)) (-1000001, S) (zif (zlk (S.2.2.1 1) (S.2.1 2) (zn r) (zn m) = 0) (nI (zif (zn w = 0) (bwho (S.2.1 4) (zn s) (zn x) 0 (zn n) (fun k => S.2.2.1 3 (40 * zn r + k)) (zn m) 1 5) (bwho (S.2.1 4) (zn s) (zn x) (zn w) (zn n) (fun k => S.2.2.1 3 (40 * zn r + k)) (zn m) 0 (S.2.1 4 0))), sSt S 0) (zres (zlk (S.2.2.1 1) (S.2.1 2) (zn r) (zn m)), sSt S (zlk (S.2.2.1 1) (S.2.1 2) (zn r) (zn m))))) (-1000001, S)) (-1000001, S)) (-1000001, S)) (-1000001, S)) (-1000001, S)
noncomputable def bqk (B : Nat → Nat) (k a : Nat) (n : Nat) : Nat := zor (fun v => zif (¬ v = B (4 + k) ∧ bpairs (va_up B (4 + k) v) = bpairs B) (2 ^ k) 0) a n
noncomputable def bquiet (B : Nat → Nat) : Nat → Nat
  | 0 => 0
  | k + 1 => bqk B k (bquiet B k) (B 0)
noncomputable def opQuiet (S : zS) : Int32 × zS := zif (0 < S.2.1 4 0) (nI (bquiet (S.2.1 4) (S.2.1 4 3)), S) (-1000002, S)
/-- draws: the number, the row tried, the sum, what is in all -/
noncomputable def bdr (B : Nat → Nat) (x : Nat) : Nat → Nat × (Nat → Nat) × Nat × Nat
  | 0 => (x, B, 0, 65535)
  | k + 1 => ((bdr B x k).1 * 16807 % 2147483647, va_up (bdr B x k).2.1 (4 + (bdr B x k).1 * 16807 % 2147483647 % (bdr B x k).2.1 3) ((bdr B x k).1 * 16807 % 2147483647 / 16 % (bdr B x k).2.1 0), (bdr B x k).2.2.1 + zsz (nI (bpairs (va_up (bdr B x k).2.1 (4 + (bdr B x k).1 * 16807 % 2147483647 % (bdr B x k).2.1 3) ((bdr B x k).1 * 16807 % 2147483647 / 16 % (bdr B x k).2.1 0)))), (bdr B x k).2.2.2 &&& bpairs (va_up (bdr B x k).2.1 (4 + (bdr B x k).1 * 16807 % 2147483647 % (bdr B x k).2.1 3) ((bdr B x k).1 * 16807 % 2147483647 / 16 % (bdr B x k).2.1 0)))
noncomputable def opDrawn (S : zS) (n x w : Int32) : Int32 × zS := zif (0 < S.2.1 4 0) (zif (zIn n 0 30) (zif (zIn x 1 999999) (zif (zIn w 0 1) (nI (zif (zn w = 0) (bdr (S.2.1 4) (zn x) (zn n)).2.2.1 (bdr (S.2.1 4) (zn x) (zn n)).2.2.2), S) (-1000001, S)) (-1000001, S)) (-1000001, S)) (-1000002, S)
theorem bdr_ok {B : Nat → Nat} (h : bOK B) (h0 : 0 < B 0) {x : Nat} (hx : x < 2147483647) : ∀ k, bOK (bdr B x k).2.1 ∧ (bdr B x k).2.1 0 = B 0 ∧ (bdr B x k).2.1 3 = B 3 ∧ (bdr B x k).1 < 2147483647 := by
  intro k
  induction k with
  | zero => exact ⟨h, rfl, rfl, hx⟩
  | succ k ih =>
    obtain ⟨i1, i2, i3, i4⟩ := ih
    have h3 := h.2.2.2.2.1 h0
    have h8 := h.r8
    have hlt : (bdr B x k).1 * 16807 % 2147483647 % (bdr B x k).2.1 3 < (bdr B x k).2.1 3 := Nat.mod_lt _ (by omega)
    refine ⟨i1.trRow (by omega) (Nat.mod_lt _ (by omega)), ?_, ?_, Nat.mod_lt _ (by decide)⟩
    · rw [← i2]; exact va_up_ne _ _ (by omega)
    · rw [← i3]; exact va_up_ne _ _ (by omega)
theorem bdr_sum {B : Nat → Nat} (x : Nat) : ∀ k, (bdr B x k).2.2.1 ≤ k * 16 := by
  intro k
  induction k with
  | zero => exact Nat.le_refl _
  | succ k ih =>
    show (bdr B x k).2.2.1 + zsz _ ≤ (k + 1) * 16
    have : ∀ S, zsz S ≤ 16 := fun S => zcnt_le _ 16
    have h := this (nI (bpairs (va_up (bdr B x k).2.1 (4 + (bdr B x k).1 * 16807 % 2147483647 % (bdr B x k).2.1 3) ((bdr B x k).1 * 16807 % 2147483647 / 16 % (bdr B x k).2.1 0))))
    omega
/-! what the rows that grow answer -/
noncomputable def opInflate (S : zS) : Int32 × zS := zif (0 < S.2.1 4 0) (zif ((grl (S.2.1 4) 1).length ≤ 8) (nI (grl (S.2.1 4) 1).length, sKeep S (va_up (va_cpy (fun q => (grl (S.2.1 4) 1).getD q 0) (S.2.1 4) 0 4 (grl (S.2.1 4) 1).length) 3 (grl (S.2.1 4) 1).length)) (-1000003, S)) (-1000002, S)
noncomputable def opGrown (S : zS) (n i : Int32) : Int32 × zS := zif (0 < S.2.1 4 0) (zif (zIn n 0 6) (zif (-1 ≤ i) (zif (gok (S.2.1 4) (zn n)) (zif (i = -1) (nI (grl (S.2.1 4) (zn n)).length, S) (zif ((grl (S.2.1 4) (zn n)).length ≤ zn i) (-1000000, S) (nI ((grl (S.2.1 4) (zn n)).getD (zn i) 0), S))) (-1000003, S)) (-1000001, S)) (-1000001, S)) (-1000002, S)
noncomputable def opOrigin (S : zS) (n i j : Int32) : Int32 × zS := zif (0 < S.2.1 4 0) (zif (zIn n 0 6) (zif (gok (S.2.1 4) (zn n)) (zif (zIn i 0 (((grl (S.2.1 4) (zn n)).length : Nat) - 1 : Int)) (zif (zIn j 0 ((zn n : Nat) : Int)) (nI (borig (S.2.1 4) (zn n) (zn i) (zn j)), S) (-1000001, S)) (-1000001, S)) (-1000003, S)) (-1000001, S)) (-1000002, S)
noncomputable def opPlace (S : zS) (n i w : Int32) : Int64 × zS := zif (0 < S.2.1 4 0) (zif (zIn n 0 6) (zif (i < 0) (-1000001, S) (zif (zIn w 0 1) (zif (gok (S.2.1 4) (zn n)) (zif (zn i < (grl (S.2.1 4) (zn n)).length) (lN (zsum (fun k => bln (S.2.1 4) ((grl (S.2.1 4) (zn n)).getD k 0) (zn w)) (zn i)), S) (-1000000, S)) (-1000003, S)) (-1000001, S))) (-1000001, S)) (-1000002, S)
theorem zcpy_ext {α : Type} {f f' g : Nat → α} {sp dp n : Nat} (h : ∀ k, k < n → f (sp + k) = f' (sp + k)) : va_cpy f g sp dp n = va_cpy f' g sp dp n := by
  funext j
  unfold va_cpy
  by_cases q : dp ≤ j ∧ j < dp + n
  · rw [if_pos q, if_pos q]; exact h _ (by omega)
  · rw [if_neg q, if_neg q]
theorem zm1_ex {i : Int32} (h : -1 ≤ i) (h2 : ¬ i = -1) : ∃ n : Nat, i = nI n ∧ n < 2 ^ 31 := by
  apply znlt_ex
  intro h3
  apply h2
  rw [zle, show (-1 : Int32).toInt = -1 from by decide] at h
  rw [zlt, show (0 : Int32).toInt = 0 from by decide] at h3
  rw [zeq, show (-1 : Int32).toInt = -1 from by decide]
  omega
section ZI
variable {p : Program} {l : Launch} {e : Env} {R : Room} {s : State} {m : MethodId} {args : Array Value} {below : List Frame} {meth : Method} {c : Code} {H : Heap} {locs : List Loc} {cells slots : Nat} {Q : State → Prop}
variable {ls : Array Slot}
theorem zloopI {head nL : Nat} {st : List Value} (n : Nat) (I : Nat → Prop) (L : Nat → List (Nat × Value))
    (step : ∀ k, k ≤ n → I k → (k < n → I (k + 1) → ∀ ls, lv_has ls nL (L (k + 1)) → W p l e R s m args below meth c H locs cells slots Q (F0 m head ls st)) → ∀ ls, lv_has ls nL (L k) → W p l e R s m args below meth c H locs cells slots Q (F0 m head ls st))
    (k0 : Nat) (h0 : k0 ≤ n) (hI : I k0) (hl : lv_has ls nL (L k0)) : W p l e R s m args below meth c H locs cells slots Q (F0 m head ls st) := by
  have key : ∀ d k, k + d = n → I k → ∀ ls, lv_has ls nL (L k) → W p l e R s m args below meth c H locs cells slots Q (F0 m head ls st) := by
    intro d
    induction d with
    | zero => intro k hk hI; exact step k (by omega) hI (fun z => absurd z (by omega))
    | succ d ih => intro k hk hI; exact step k (by omega) hI (fun _ => ih (k + 1) (by omega))
  exact key (n - k0) k0 (by omega) hI ls hl
end ZI
