/-! what holds of a state holds behind every operation -/
theorem zif_dep {α : Type} {P : Prop} {a b : α} (Q : α → Prop) (ha : P → Q a) (hb : ¬ P → Q b) : Q (zif P a b) := by
  by_cases h : P
  · rw [zif_t h]; exact ha h
  · rw [zif_f h]; exact hb h
theorem bOK.word {B f : Nat → Nat} (h : bOK B) {x n : Nat} (hx : x < B 0) (hn : 1 ≤ n) (hn4 : n ≤ 4) (hf : ∀ k, k < n → f k < B 0) : bOK (va_up (va_cpy f B 0 (12 + 8 * x + 4) n) (12 + 8 * x + 3) n) := by
  have hout : ∀ j, j ≠ 12 + 8 * x + 3 → (j < 12 + 8 * x + 4 ∨ 12 + 8 * x + 4 + n ≤ j) → va_up (va_cpy f B 0 (12 + 8 * x + 4) n) (12 + 8 * x + 3) n j = B j := fun j h1 h2 => by
    rw [va_up_ne _ _ h1]
    unfold va_cpy
    rw [if_neg (by omega)]
  have hin : ∀ k, k < n → va_up (va_cpy f B 0 (12 + 8 * x + 4) n) (12 + 8 * x + 3) n (12 + 8 * x + 4 + k) = f k := fun k hk => by
    rw [va_up_ne _ _ (by omega), zcpy_in (by omega) (by omega)]
    congr 1
    omega
  have h3 : va_up (va_cpy f B 0 (12 + 8 * x + 4) n) (12 + 8 * x + 3) n (12 + 8 * x + 3) = n := va_up_self _ _ _
  generalize va_up (va_cpy f B 0 (12 + 8 * x + 4) n) (12 + 8 * x + 3) n = C at hout hin h3
  have h8 := h.r8
  have e0 : C 0 = B 0 := hout 0 (by omega) (by omega)
  have e3 : C 3 = B 3 := hout 3 (by omega) (by omega)
  refine ⟨by rw [e0]; exact h.1, by rw [hout 1 (by omega) (by omega)]; exact h.2.1, by rw [hout 2 (by omega) (by omega)]; exact h.2.2.1, by rw [e3]; exact h8, by rw [e0, e3]; exact h.2.2.2.2.1, fun i hi => ?_, fun y hy => ?_⟩
  · rw [e3] at hi
    rw [e0, hout (4 + i) (by omega) (by omega)]
    exact h.row hi
  · rw [e0] at hy ⊢
    have h2 := h.2.2.2.2.2.2 y hy
    by_cases q : y = x
    · subst q
      refine ⟨?_, ?_, ?_, ?_, ?_, ?_, ?_⟩
      · unfold bkd; rw [hout _ (by omega) (by omega)]; exact h2.1
      · unfold bkd; rw [hout _ (by omega) (by omega)]; exact h2.2.1
      · rw [hout _ (by omega) (by omega)]; exact h2.2.2.1
      · rw [hout _ (by omega) (by omega)]; exact h2.2.2.2.1
      · unfold bwl; rw [h3]; exact hn
      · unfold bwl; rw [h3]; exact hn4
      · intro i hi
        unfold bwl at hi
        rw [h3] at hi
        rw [hin i hi]
        exact hf i hi
    · have hw := h2.2.2.2.2.2.1
      refine ⟨?_, ?_, ?_, ?_, ?_, ?_, ?_⟩
      · unfold bkd; rw [hout _ (by omega) (by omega)]; exact h2.1
      · unfold bkd; rw [hout _ (by omega) (by omega)]; exact h2.2.1
      · rw [hout _ (by omega) (by omega)]; exact h2.2.2.1
      · rw [hout _ (by omega) (by omega)]; exact h2.2.2.2.1
      · unfold bwl; rw [hout _ (by omega) (by omega)]; exact h2.2.2.2.2.1
      · unfold bwl; rw [hout _ (by omega) (by omega)]; exact hw
      · intro i hi
        unfold bwl at hi
        rw [hout _ (by omega) (by omega)] at hi
        have hi4 : i < bwl B y := hi
        rw [hout _ (by omega) (by omega)]
        exact h2.2.2.2.2.2.2 i hi4
theorem bOK.begin {B f : Nat → Nat} (h : bOK B) {n : Nat} (hn : 1 ≤ n) (hn8 : n ≤ 8) (hf : ∀ k, k < n → f k < B 0) : bOK (va_up (va_cpy f B 0 4 n) 3 n) := by
  have hout : ∀ j, j ≠ 3 → (j < 4 ∨ 4 + n ≤ j) → va_up (va_cpy f B 0 4 n) 3 n j = B j := fun j h1 h2 => by
    rw [va_up_ne _ _ h1]
    unfold va_cpy
    rw [if_neg (by omega)]
  have hin : ∀ k, k < n → va_up (va_cpy f B 0 4 n) 3 n (4 + k) = f k := fun k hk => by
    rw [va_up_ne _ _ (by omega), zcpy_in (by omega) (by omega)]
    congr 1
    omega
  have h3 : va_up (va_cpy f B 0 4 n) 3 n 3 = n := va_up_self _ _ _
  generalize va_up (va_cpy f B 0 4 n) 3 n = C at hout hin h3
  have e0 : C 0 = B 0 := hout 0 (by omega) (by omega)
  refine ⟨by rw [e0]; exact h.1, by rw [hout 1 (by omega) (by omega)]; exact h.2.1, by rw [hout 2 (by omega) (by omega)]; exact h.2.2.1, by rw [h3]; exact hn8, by rw [h3]; exact fun _ => hn, fun i hi => ?_, fun y hy => ?_⟩
  · rw [h3] at hi
    rw [e0, hin i hi]
    exact hf i hi
  · rw [e0] at hy ⊢
    have h2 := h.2.2.2.2.2.2 y hy
    refine ⟨?_, ?_, ?_, ?_, ?_, ?_, ?_⟩
    · unfold bkd; rw [hout _ (by omega) (by omega)]; exact h2.1
    · unfold bkd; rw [hout _ (by omega) (by omega)]; exact h2.2.1
    · rw [hout _ (by omega) (by omega)]; exact h2.2.2.1
    · rw [hout _ (by omega) (by omega)]; exact h2.2.2.2.1
    · unfold bwl; rw [hout _ (by omega) (by omega)]; exact h2.2.2.2.2.1
    · unfold bwl; rw [hout _ (by omega) (by omega)]; exact h2.2.2.2.2.2.1
    · intro i hi
      unfold bwl at hi
      rw [hout _ (by omega) (by omega)] at hi
      rw [hout _ (by omega) (by omega)]
      exact h2.2.2.2.2.2.2 i hi
theorem bOK.len {B : Nat → Nat} (h : bOK B) {x w v : Nat} (hx : x < B 0) (hw : w < 2) (hv : v ≤ 9) : bOK (va_up B (12 + 8 * x + 1 + w) v) := by
  have h8 := h.r8
  refine h.tr (by omega) (fun j hj e => absurd e (by omega)) (fun y hy => ?_)
  have h2 := h.2.2.2.2.2.2 y hy
  unfold sOK at h2 ⊢
  rw [bkd_up (by omega), bwl_up (by omega)]
  refine ⟨h2.1, h2.2.1, ?_, ?_, h2.2.2.2.2.1, h2.2.2.2.2.2.1, fun i hi => by have := h2.2.2.2.2.2.1; rw [va_up_ne _ _ (by omega)]; exact h2.2.2.2.2.2.2 i hi⟩
  · by_cases q : 12 + 8 * y + 1 = 12 + 8 * x + 1 + w
    · rw [q, va_up_self]; exact hv
    · rw [va_up_ne _ _ q]; exact h2.2.2.1
  · by_cases q : 12 + 8 * y + 1 + 1 = 12 + 8 * x + 1 + w
    · rw [q, va_up_self]; exact hv
    · rw [va_up_ne _ _ q]; exact h2.2.2.2.1
theorem bOK.root {B : Nat → Nat} (h : bOK B) {w v : Nat} (hw : w < 2) (hv : v ≤ zif (w = 0) 3 9) : bOK (va_up B (1 + w) v) := by
  have hout : ∀ j, j ≠ 1 + w → va_up B (1 + w) v j = B j := fun j hj => va_up_ne _ _ hj
  have e0 := hout 0 (by omega)
  have e3 := hout 3 (by omega)
  refine ⟨by rw [e0]; exact h.1, ?_, ?_, by rw [e3]; exact h.r8, by rw [e0, e3]; exact h.2.2.2.2.1, fun i hi => ?_, fun y hy => ?_⟩
  · by_cases q : w = 0
    · rw [zif_t q] at hv; rw [q, va_up_self]; exact hv
    · rw [hout 1 (by omega)]; exact h.2.1
  · by_cases q : w = 0
    · rw [hout 2 (by omega)]; exact h.2.2.1
    · rw [zif_f q] at hv; rw [show 1 + w = 2 by omega, va_up_self]; exact hv
  · rw [e3] at hi
    rw [e0, hout _ (by omega)]
    exact h.row hi
  · rw [e0] at hy ⊢
    have h2 := h.2.2.2.2.2.2 y hy
    unfold sOK at h2 ⊢
    rw [bkd_up (by omega), bwl_up (by omega), hout _ (by omega), hout _ (by omega)]
    exact ⟨h2.1, h2.2.1, h2.2.2.1, h2.2.2.2.1, h2.2.2.2.2.1, h2.2.2.2.2.2.1, fun i hi => by rw [hout _ (by omega)]; exact h2.2.2.2.2.2.2 i hi⟩
theorem SI.st {S : zS} (h : SI S) {k : Nat} (hk : k ≤ 6) : SI (sSt S k) := ⟨h.1, hk, h.2.2⟩
theorem va_upn {α : Type} {f : Nat → α} {k : Nat} {v : α} {j : Nat} (h : j ≠ k) : va_up f k v j = f j := va_up_ne _ _ h
theorem cpy_was {B V : Nat → Nat} {a i : Nat} : (fun j => va_cpy B V 0 (44 * a) 44 (44 * i + j)) 0 = (if i = a then B 0 else V (44 * i)) := by
  show va_cpy B V 0 (44 * a) 44 (44 * i) = _
  unfold va_cpy
  by_cases q : i = a
  · rw [if_pos (by omega), if_pos q, q, Nat.sub_self]
  · rw [if_neg (by omega), if_neg q]
theorem bOK.ext {B C : Nat → Nat} (h : bOK B) (e : ∀ j, j < 44 → C j = B j) : bOK C := by
  have h8 := h.r8
  have h4 := h.n4
  have e0 := e 0 (by omega)
  have e3 := e 3 (by omega)
  refine ⟨by rw [e0]; exact h.1, by rw [e 1 (by omega)]; exact h.2.1, by rw [e 2 (by omega)]; exact h.2.2.1, by rw [e3]; exact h8, by rw [e0, e3]; exact h.2.2.2.2.1, fun i hi => ?_, fun y hy => ?_⟩
  · rw [e3] at hi
    rw [e0, e _ (by omega)]
    exact h.row hi
  · rw [e0] at hy ⊢
    have h2 := h.2.2.2.2.2.2 y hy
    have hw := h2.2.2.2.2.2.1
    unfold sOK bkd bwl at h2 ⊢
    rw [e _ (by omega), e _ (by omega), e _ (by omega), e _ (by omega)]
    exact ⟨h2.1, h2.2.1, h2.2.2.1, h2.2.2.2.1, h2.2.2.2.2.1, h2.2.2.2.2.2.1, fun i hi => by unfold bwl at hw; rw [e _ (by omega)]; exact h2.2.2.2.2.2.2 i hi⟩
theorem SI.keep {S : zS} (h : SI S) (ha : S.1 8 < 24) (h0 : 0 < S.2.1 4 0) {B : Nat → Nat} (hB : bOK B) (hB0 : 0 < B 0) : SI (sKeep S B) := by
  obtain ⟨i1, i2, i3, i4, i5, i6, i7, i8, i9, i10, i11, i12⟩ := h
  have e7 : (sKeep S B).2.1 7 = va_cpy (S.2.1 4) (S.2.1 7) 0 (44 * S.1 8) 44 := rfl
  have e8 : (sKeep S B).1 8 = S.1 8 + 1 := rfl
  refine ⟨hB, i2, by rw [e8]; omega, i4, i5, i6, i7, fun i hi => ?_, i9, i10, fun i hi => ?_, fun _ => hB0⟩
  · rw [e8] at hi
    rw [e7]
    by_cases q : i = S.1 8
    · refine i1.ext fun j hj => ?_
      rw [q, zcpy_in (by omega) (by omega), show 0 + (44 * S.1 8 + j - 44 * S.1 8) = j by omega]
    · refine (i8 i (by omega)).ext fun j hj => ?_
      unfold va_cpy
      rw [if_neg (by omega)]
  · rw [e8] at hi
    rw [e7]
    have := cpy_was (B := S.2.1 4) (V := S.2.1 7) (a := S.1 8) (i := i)
    show 0 < va_cpy (S.2.1 4) (S.2.1 7) 0 (44 * S.1 8) 44 (44 * i)
    have e : va_cpy (S.2.1 4) (S.2.1 7) 0 (44 * S.1 8) 44 (44 * i) = if i = S.1 8 then S.2.1 4 0 else S.2.1 7 (44 * i) := this
    rw [e]
    by_cases q : i = S.1 8
    · rw [if_pos q]; exact h0
    · rw [if_neg q]; exact i11 i (by omega)
