/-! rows that grow -/
def gimg (B : Nat → Nat) (x : Nat) : List Nat := (List.range (bil B x)).map (bia B x)
def gro (B : Nat → Nat) (l : List Nat) : List Nat := l.flatMap (gimg B)
def grl (B : Nat → Nat) : Nat → List Nat
  | 0 => (List.range (B 3)).map (fun i => B (4 + i))
  | n + 1 => gro B (grl B n)
def gok (B : Nat → Nat) (n : Nat) : Prop := ∀ k, k ≤ n → (grl B k).length ≤ 300
def lHas (L : Nat → Nat) (l : List Nat) : Prop := ∀ k, k < l.length → L k = l.getD k 0
def lAll (B : Nat → Nat) (l : List Nat) : Prop := ∀ x ∈ l, x < B 0
theorem gimg_len (B : Nat → Nat) (x : Nat) : (gimg B x).length = bil B x := by unfold gimg; rw [List.length_map, List.length_range]
theorem gimg_at {B : Nat → Nat} {x i : Nat} (h : i < bil B x) : (gimg B x).getD i 0 = bia B x i := by
  unfold gimg
  rw [List.getD_eq_getElem?_getD, List.getElem?_map, List.getElem?_range h]
  rfl
theorem zsum_sh (f : Nat → Nat) : ∀ k, zsum f (k + 1) = f 0 + zsum (fun i => f (i + 1)) k := by
  intro k
  induction k with
  | zero => show 0 + f 0 = f 0 + 0; omega
  | succ k ih =>
    show zsum f (k + 1) + f (k + 1) = f 0 + (zsum (fun i => f (i + 1)) k + f (k + 1))
    rw [ih]
    omega
theorem gro_len (B : Nat → Nat) : ∀ l : List Nat, (gro B l).length = zsum (fun k => bil B (l.getD k 0)) l.length := by
  intro l
  induction l with
  | nil => rfl
  | cons a l ih =>
    show (gimg B a ++ gro B l).length = zsum _ (l.length + 1)
    rw [List.length_append, gimg_len, zsum_sh, ih]
    rfl
theorem gro_at (B : Nat → Nat) : ∀ (l : List Nat) (k i : Nat), k < l.length → i < bil B (l.getD k 0) → (gro B l).getD (zsum (fun k => bil B (l.getD k 0)) k + i) 0 = bia B (l.getD k 0) i := by
  intro l
  induction l with
  | nil => intro k i h; exact absurd h (Nat.not_lt_zero _)
  | cons a l ih =>
    intro k i hk hi
    show (gimg B a ++ gro B l).getD _ 0 = _
    cases k with
    | zero =>
      have hi : i < bil B a := hi
      show (gimg B a ++ gro B l).getD (0 + i) 0 = bia B a i
      rw [Nat.zero_add, List.getD_eq_getElem?_getD, List.getElem?_append_left (by rw [gimg_len]; exact hi), ← List.getD_eq_getElem?_getD]
      exact gimg_at hi
    | succ k =>
      rw [zsum_sh]
      have hk : k < l.length := Nat.lt_of_succ_lt_succ hk
      have hi : i < bil B (l.getD k 0) := hi
      show (gimg B a ++ gro B l).getD (bil B a + zsum (fun i => bil B (l.getD i 0)) k + i) 0 = bia B (l.getD k 0) i
      rw [List.getD_eq_getElem?_getD, List.getElem?_append_right (by rw [gimg_len]; omega), gimg_len, show bil B a + zsum (fun i => bil B (l.getD i 0)) k + i - bil B a = zsum (fun i => bil B (l.getD i 0)) k + i by omega, ← List.getD_eq_getElem?_getD]
      exact ih k i hk hi
theorem lAll_gro {B : Nat → Nat} (hB : bOK B) {l : List Nat} (h : lAll B l) : lAll B (gro B l) := by
  intro x hx
  obtain ⟨a, ha, hx⟩ := List.mem_flatMap.mp hx
  obtain ⟨i, hi, rfl⟩ := List.mem_map.mp hx
  exact hB.ia (h a ha) (List.mem_range.mp hi)
theorem lAll_grl {B : Nat → Nat} (hB : bOK B) : ∀ n, lAll B (grl B n) := by
  intro n
  induction n with
  | zero =>
    intro x hx
    obtain ⟨i, hi, rfl⟩ := List.mem_map.mp hx
    exact hB.row (List.mem_range.mp hi)
  | succ n ih => exact lAll_gro hB ih
theorem lAll_at {B : Nat → Nat} {l : List Nat} (h : lAll B l) {k : Nat} (hk : k < l.length) : l.getD k 0 < B 0 := by
  rw [List.getD_eq_getElem?_getD, List.getElem?_eq_getElem hk]
  exact h _ (List.getElem_mem hk)
theorem lHas.sum {B : Nat → Nat} {L : Nat → Nat} {l : List Nat} (h : lHas L l) {k : Nat} (hk : k ≤ l.length) : zsum (fun k => bil B (L k)) k = zsum (fun k => bil B (l.getD k 0)) k := zsum_ext fun i hi => by rw [h i (by omega)]
theorem lHas.len {B : Nat → Nat} {L : Nat → Nat} {l : List Nat} (h : lHas L l) : zsum (fun k => bil B (L k)) l.length = (gro B l).length := by rw [gro_len]; exact h.sum (Nat.le_refl _)
theorem lHas.at' {B : Nat → Nat} {L : Nat → Nat} {l : List Nat} (h : lHas L l) {k i : Nat} (hk : k < l.length) (hi : i < bil B (L k)) : (gro B l).getD (zsum (fun k => bil B (L k)) k + i) 0 = bia B (L k) i := by
  rw [h.sum (by omega), h k hk]
  exact gro_at B l k i hk (by rw [← h k hk]; exact hi)
theorem zsum_lt (f : Nat → Nat) {k : Nat} : ∀ {n : Nat}, k < n → zsum f k + f k ≤ zsum f n := by
  intro n
  induction n with
  | zero => intro h; omega
  | succ n ih =>
    intro h
    show zsum f k + f k ≤ zsum f n + f n
    rcases Nat.lt_or_ge k n with q | q
    · have := ih q; omega
    · have : k = n := by omega
      subst this
      exact Nat.le_refl _
theorem lHas_0 {B : Nat → Nat} {L : Nat → Nat} (h : ∀ k, k < B 3 → L k = B (4 + k)) : lHas L (grl B 0) := by
  intro k hk
  have e : (grl B 0).length = B 3 := by show ((List.range (B 3)).map (fun i => B (4 + i))).length = _; rw [List.length_map, List.length_range]
  rw [e] at hk
  rw [h k hk]
  show _ = ((List.range (B 3)).map (fun i => B (4 + i))).getD k 0
  rw [List.getD_eq_getElem?_getD, List.getElem?_map, List.getElem?_range hk]
  rfl
theorem grl_0 (B : Nat → Nat) : (grl B 0).length = B 3 := by show ((List.range (B 3)).map (fun i => B (4 + i))).length = _; rw [List.length_map, List.length_range]
theorem gok_0 {B : Nat → Nat} (hB : bOK B) : gok B 0 := fun k hk => by
  have e : k = 0 := by omega
  subst e
  rw [grl_0]
  have := hB.r8
  omega
theorem gok_s {B : Nat → Nat} {n : Nat} : gok B (n + 1) ↔ gok B n ∧ (grl B (n + 1)).length ≤ 300 := by
  constructor
  · intro h; exact ⟨fun k hk => h k (by omega), h (n + 1) (Nat.le_refl _)⟩
  · intro h k hk
    rcases Nat.lt_or_ge k (n + 1) with q | q
    · exact h.1 k (by omega)
    · have : k = n + 1 := by omega
      subst this
      exact h.2
theorem gok_le {B : Nat → Nat} {m n : Nat} (h : gok B n) (hm : m ≤ n) : gok B m := fun k hk => h k (by omega)
/-- in which letter, once less grown, the letter at j lies -/
def bpar (B : Nat → Nat) : List Nat → Nat → Nat
  | [], _ => 0
  | a :: l, j => if j < bil B a then 0 else bpar B l (j - bil B a) + 1
theorem bpar_at (B : Nat → Nat) : ∀ (l : List Nat) (k i : Nat), k < l.length → i < bil B (l.getD k 0) → bpar B l (zsum (fun k => bil B (l.getD k 0)) k + i) = k := by
  intro l
  induction l with
  | nil => intro k i h; exact absurd h (Nat.not_lt_zero _)
  | cons a l ih =>
    intro k i hk hi
    cases k with
    | zero =>
      show (if 0 + i < bil B a then 0 else _) = 0
      rw [if_pos (by have : i < bil B a := hi; omega)]
    | succ k =>
      rw [zsum_sh]
      show (if bil B a + zsum (fun i => bil B (l.getD i 0)) k + i < bil B a then 0 else bpar B l (bil B a + zsum (fun i => bil B (l.getD i 0)) k + i - bil B a) + 1) = k + 1
      rw [if_neg (by omega), show bil B a + zsum (fun i => bil B (l.getD i 0)) k + i - bil B a = zsum (fun i => bil B (l.getD i 0)) k + i by omega, ih k i (Nat.lt_of_succ_lt_succ hk) hi]
/-- where a letter of the row, n times grown, lay j times ago -/
def borig (B : Nat → Nat) (n a : Nat) : Nat → Nat
  | 0 => a
  | j + 1 => bpar B (grl B (n - (j + 1))) (borig B n a j)
theorem gro_pos {B : Nat → Nat} (hB : bOK B) {l : List Nat} (h : lAll B l) : l.length ≤ (gro B l).length := by
  rw [gro_len]
  have : ∀ k, k ≤ l.length → k ≤ zsum (fun k => bil B (l.getD k 0)) k := by
    intro k
    induction k with
    | zero => intro _; exact Nat.le_refl _
    | succ k ih =>
      intro hk
      have h1 := ih (by omega)
      have h2 := (hB.il (lAll_at h (show k < l.length by omega))).1
      show k + 1 ≤ zsum _ k + bil B (l.getD k 0)
      omega
  exact this _ (Nat.le_refl _)
/-- every place behind a sum lies in one letter -/
theorem zsum_in (f : Nat → Nat) : ∀ (n j : Nat), j < zsum f n → ∃ k i, k < n ∧ i < f k ∧ j = zsum f k + i := by
  intro n
  induction n with
  | zero => intro j h; exact absurd h (Nat.not_lt_zero _)
  | succ n ih =>
    intro j h
    rcases Nat.lt_or_ge j (zsum f n) with q | q
    · obtain ⟨k, i, h1, h2, h3⟩ := ih j q
      exact ⟨k, i, by omega, h2, h3⟩
    · have h : j < zsum f n + f n := h
      exact ⟨n, j - zsum f n, by omega, by omega, by omega⟩
theorem bpar_lt {B : Nat → Nat} {l : List Nat} {j : Nat} (h : j < (gro B l).length) : bpar B l j < l.length := by
  rw [gro_len] at h
  obtain ⟨k, i, h1, h2, rfl⟩ := zsum_in _ _ _ h
  rw [bpar_at B l k i h1 h2]
  exact h1
theorem borig_lt {B : Nat → Nat} {n a : Nat} (h : a < (grl B n).length) : ∀ {j : Nat}, j ≤ n → borig B n a j < (grl B (n - j)).length := by
  intro j
  induction j with
  | zero => intro _; exact h
  | succ j ih =>
    intro hj
    have h1 := ih (by omega)
    rw [show n - j = n - (j + 1) + 1 by omega] at h1
    exact bpar_lt h1
theorem zif_c {α : Type} {P Q : Prop} {a b : α} (h : P ↔ Q) : zif P a b = zif Q a b := by rw [propext h]
theorem up2_id {cn : Nat → Nat → Int32} {L P : Nat → Nat} (h9 : cn 9 = nF L) (h10 : cn 10 = nF P) : cn = va_up (va_up cn 9 (nF L)) 10 (nF P) := by
  funext j
  unfold va_up
  by_cases q : j = 10
  · rw [if_pos q, q, h10]
  · rw [if_neg q]
    by_cases q2 : j = 9
    · rw [if_pos q2, q2, h9]
    · rw [if_neg q2]
theorem zcpy2 {G P L : Nat → Nat} {t k : Nat} (h : k < t) : va_cpy (va_cpy G P 0 0 t) L 0 0 t k = G k := by
  rw [zcpy_in (by omega) (by omega), Nat.zero_add, Nat.sub_zero, zcpy_in (by omega) (by omega), Nat.zero_add, Nat.sub_zero]
theorem nI_nF {a : Nat} (h : a < 2 ^ 31) : ¬ nI a = -1000003 := by
  intro e
  have h1 := congrArg Int32.toInt e
  rw [nI_toInt h] at h1
  have h2 : (-1000003 : Int32).toInt = -1000003 := by decide
  omega
theorem lHas.sle {B L : Nat → Nat} {l : List Nat} (hB : bOK B) (h : lHas L l) (hA : lAll B l) {k : Nat} (hk : k ≤ l.length) : zsum (fun k => bil B (L k)) k ≤ k * 4 := zsum_le fun i hi => (hB.il (by rw [h i (by omega)]; exact lAll_at hA (by omega))).2
theorem lHas.lt {B L : Nat → Nat} {l : List Nat} (h : lHas L l) (hA : lAll B l) {k : Nat} (hk : k < l.length) : L k < B 0 := by rw [h k hk]; exact lAll_at hA hk
theorem gok_1 {B : Nat → Nat} (hB : bOK B) : gok B 1 ∧ (grl B 1).length ≤ 32 := by
  have e : (grl B 1).length ≤ 32 := by
    show (gro B (grl B 0)).length ≤ 32
    rw [gro_len]
    have h1 := zsum_le (f := fun k => bil B ((grl B 0).getD k 0)) (b := 4) (k := (grl B 0).length) (fun i hi => (hB.il (lAll_at (lAll_grl hB 0) hi)).2)
    have h2 := hB.r8
    rw [grl_0] at h1 ⊢
    omega
  exact ⟨gok_s.mpr ⟨gok_0 hB, Nat.le_trans e (by decide)⟩, e⟩
