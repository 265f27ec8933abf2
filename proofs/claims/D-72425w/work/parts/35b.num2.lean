theorem bn0_s (B : Nat → Nat) (k : Nat) : va_up (fun y => zsum (fun j => zif (B (4 + j) = y) 1 0) k) (B (4 + k)) (zsum (fun j => zif (B (4 + j) = B (4 + k)) 1 0) k + 1) = fun y => zsum (fun j => zif (B (4 + j) = y) 1 0) (k + 1) := by
  funext y
  show _ = zsum (fun j => zif (B (4 + j) = y) 1 0) k + zif (B (4 + k) = y) 1 0
  by_cases z : y = B (4 + k)
  · rw [z, va_up_self, zif_t rfl]
  · rw [va_up_ne _ _ z, zif_f (fun e => z e.symm)]; rfl
theorem bS_0 {b p : Prop} (h : p ↔ b) : bS b 0 p 0 := ⟨by decide, ⟨fun z => Or.inl (h.mp z), fun z => z.elim h.mpr (fun z => absurd z (by decide))⟩, fun _ => rfl⟩
