/-! base rows of this claim: a state of the world g, numbers as nI, conditions as props, loops, joins -/
abbrev zCL : List vw_C := [(RX0, TX0, 11), (RX1, TX1, 13), (RX2, TX2, 2), (RX3, TX3, 30), (RX4, TX4, 7), (RX5, TX5, 2), (RX6, TX6, 7), (RX7, TX7, 8), (RJ2, TJ2, 3), (RX9, TX9, 1), (RX10, TX10, 1), (RX11, TX11, 1), (RX12, TX12, 1), (RX13, TX13, 1), (RJ7, TJ7, 6), (RJ16, TJ16, 6), (RJ18, TJ18, 6)]
abbrev zT (dA : Nat → ClassId) : List (ClassId × FieldType) := [(dA 0, .int), (dA 1, .long), (dA 2, .byte), (dA 3, .boolean), (dA 4, .object "InflatedRows$Row"), (dA 5, .object "InflatedRows$Book"), (dA 6, .object "java/lang/Object")]
/-- the ghost of a run: the classes' numbers and slots, the array classes -/
abbrev zG : Type := va_G × (Nat → ClassId)
/-- words that move with a warm world -/
def zmv : Cond → Bool
  | .castable _ _ => true
  | .fieldLinkNest _ _ _ _ _ _ => true
  | .methodLinkNest _ _ _ _ => true
  | .declares _ => true
  | .publicMethod _ => true
  | .unhidden _ _ _ => true
  | .arrayOver (.object _) => true
  | _ => false
theorem zmv_ok {w : Cond} (hw : zmv w = true) {s U : State} (hW : s.WarmedH U.vm) (h : va_Nw w s) : va_Nw w U := by
  have tr : ∀ {c : Cond}, c.onTables = true → c.before #[] (s.setVm U.vm) = true → c.before #[] U = true := by
    intro c hc h
    have e := Cond.onTables_vm (A := #[]) (A' := #[]) (U := s) (U' := U) U.vm c hc
    have hU : U.setVm U.vm = U := rfl
    rw [hU] at e
    rw [← e]
    exact h
  unfold zmv at hw
  split at hw
  · exact va_Nw.warmC hW h
  · exact va_Nw.warmF hW h
  · exact va_Nw.warmM hW h
  · exact va_Nw.warmD hW h
  · exact tr rfl (by rw [Cond.publicMethod_setVm hW.alike]; exact h)
  · exact tr rfl (by rw [Cond.unhidden_setVm hW.alike]; exact h)
  · exact va_AO.moved hW.alike h
  · cases hw
/-- what stands in the tables and is no steady word, of all that moves -/
def zN (U : State) : Prop := (∀ w ∈ lw_tbl, zmv w = true → va_Nw w U) ∧ ∀ x : MethodName, Cond.interfaceMethod x.cls x.cls x.name x.desc ∈ lw_tbl → Cond.declares x ∈ lw_tbl → x.cls ≠ "java/lang/invoke/MethodHandle" ∧ x.cls ≠ "java/lang/invoke/VarHandle" → va_Nw (Cond.interfaceMethod x.cls x.cls x.name x.desc) U
theorem zN.moved {s U : State} (hW : s.WarmedH U.vm) (h : zN s) : zN U := by
  have tr : ∀ {c : Cond}, c.onTables = true → c.before #[] (s.setVm U.vm) = true → c.before #[] U = true := by
    intro c hc h
    have e := Cond.onTables_vm (A := #[]) (A' := #[]) (U := s) (U' := U) U.vm c hc
    have hU : U.setVm U.vm = U := rfl
    rw [hU] at e
    rw [← e]
    exact h
  refine ⟨fun w hw hm => zmv_ok hm hW (h.1 w hw hm), fun x h1 h2 h3 => ?_⟩
  obtain ⟨r, meth, hn, -⟩ := Cond.declares_spec (h.1 _ h2 rfl)
  exact tr rfl (by rw [Cond.interfaceMethod_setVm hW.alike (r := r) hn h3]; exact h.2 x h1 h2 h3)
theorem zmv_same {w : Cond} (hw : zmv w = true) {u U : State} (hv : u.vm = U.vm) (h : va_Nw w u) : va_Nw w U := by
  unfold zmv at hw
  split at hw
  · exact va_Nw.same rfl hv h
  · exact va_Nw.same rfl hv h
  · exact va_Nw.same rfl hv h
  · exact va_Nw.same rfl hv h
  · exact va_Nw.same rfl hv h
  · exact va_Nw.same rfl hv h
  · exact va_AO.moved (by rw [hv]; exact Vm.Alike.refl _) h
  · cases hw
theorem zN.same {u U : State} (hv : u.vm = U.vm) (h : zN u) : zN U :=
  ⟨fun w hw hm => zmv_same hm hv (h.1 w hw hm), fun x h1 h2 h3 => va_Nw.same rfl hv (h.2 x h1 h2 h3)⟩
def zK (g : zG) (U : State) : Prop := va_K g.1 zCL (zT g.2) U ∧ zN U
/-- a contract's start: the arguments, the tables, what the heap holds -/
def zPc (g : zG) (av : List Value) (B : Heap → Prop) : Array Value → State → Prop := va_Pc av (fun U => zK g U ∧ B U.heap)
theorem zPc_blind {g : zG} {av : List Value} {B : Heap → Prop} : FrameBlind (zPc g av B) := by
  intro a U f mk h
  obtain ⟨h0, ⟨h1, h2⟩, h3⟩ := h
  exact ⟨h0, ⟨va_K.moved (u := U) (U := U.calling f mk a) (Vm.Alike.refl U.vm) h1, zN.same (u := U) rfl h2⟩, h3⟩
theorem zpreS {g : zG} {s : State} {H : Heap} {As : List Value} {B : Heap → Prop} (hK : va_K g.1 zCL (zT g.2) s) (hN : zN s) (hB : B H) : PreS s H (zPc g As B) As :=
  ⟨zPc_blind, fun U hU hW => ⟨rfl, ⟨va_K.moved hW.alike hK, hN.moved hW⟩, by rw [hU]; exact hB⟩⟩
theorem zpreV {g : zG} {s : State} {H : Heap} {C : String} {b : Addr} {As : List Value} {B : Heap → Prop} (hK : va_K g.1 zCL (zT g.2) s) (hN : zN s) (hr : ∃ cell : Cell, H[b]? = some cell ∧ cell.vm.isStatics = false ∧ s.vm.findClass C = some cell.cls) (hB : B H) : PreV s H C b (zPc g (.ref b :: As) B) As :=
  ⟨zPc_blind, hr, fun U hU hW => ⟨rfl, ⟨va_K.moved hW.alike hK, hN.moved hW⟩, by rw [hU]; exact hB⟩⟩
/-- a truth value of the machine -/
noncomputable def zB (P : Prop) : Int32 := @ite Int32 P (Classical.propDecidable P) 1 0
theorem zB_t {P : Prop} (h : P) : zB P = 1 := @if_pos P (Classical.propDecidable P) h Int32 1 0
theorem zB_f {P : Prop} (h : ¬ P) : zB P = 0 := @if_neg P (Classical.propDecidable P) h Int32 1 0
theorem zB_c {P Q : Prop} (h : P ↔ Q) : zB P = zB Q := by rw [propext h]
theorem zB_and (P Q : Prop) : zB P &&& zB Q = zB (P ∧ Q) := by
  by_cases h : P <;> by_cases h2 : Q
  · rw [zB_t h, zB_t h2, zB_t ⟨h, h2⟩]; rfl
  · rw [zB_t h, zB_f h2, zB_f (fun z => h2 z.2)]; rfl
  · rw [zB_f h, zB_t h2, zB_f (fun z => h z.1)]; rfl
  · rw [zB_f h, zB_f h2, zB_f (fun z => h z.1)]; rfl
theorem zB_1 (P : Prop) : zB P = 1 ↔ P := by
  by_cases h : P
  · rw [zB_t h]; exact ⟨fun _ => h, fun _ => rfl⟩
  · rw [zB_f h]; exact ⟨fun z => absurd z (by decide), fun z => absurd z h⟩
theorem zB_0 (P : Prop) : zB P = 0 ↔ ¬ P := by
  by_cases h : P
  · rw [zB_t h]; exact ⟨fun z => absurd z (by decide), fun z => absurd h z⟩
  · rw [zB_f h]; exact ⟨fun _ => h, fun _ => rfl⟩
theorem zB_nar (P : Prop) : narrow .boolean (.int (zB P)) = .int (zB P) := by
  by_cases h : P
  · rw [zB_t h]; rfl
  · rw [zB_f h]; rfl
theorem zB_fit (P : Prop) : fits .boolean (.int (zB P)) = true := by
  by_cases h : P
  · rw [zB_t h]; rfl
  · rw [zB_f h]; rfl
/-- a choice -/
noncomputable def zif {α : Type} (P : Prop) (a b : α) : α := @ite α P (Classical.propDecidable P) a b
theorem zif_t {α : Type} {P : Prop} {a b : α} (h : P) : zif P a b = a := @if_pos P (Classical.propDecidable P) h α a b
theorem zif_f {α : Type} {P : Prop} {a b : α} (h : ¬ P) : zif P a b = b := @if_neg P (Classical.propDecidable P) h α a b
/-- numbers -/
theorem zlt (a b : Int32) : a < b ↔ a.toInt < b.toInt := Int32.lt_iff_toInt_lt
theorem zle (a b : Int32) : a ≤ b ↔ a.toInt ≤ b.toInt := Int32.le_iff_toInt_le
theorem zeq (a b : Int32) : a = b ↔ a.toInt = b.toInt := Int32.toInt_inj.symm
theorem zlt64 (a b : Int64) : a < b ↔ a.toInt < b.toInt := Int64.lt_iff_toInt_lt
theorem zle64 (a b : Int64) : a ≤ b ↔ a.toInt ≤ b.toInt := Int64.le_iff_toInt_le
theorem zeq64 (a b : Int64) : a = b ↔ a.toInt = b.toInt := Int64.toInt_inj.symm
theorem zwide (a b : Int32) : a.toInt64 ≤ b.toInt64 ↔ a ≤ b := by rw [zle64, zle, Int32.toInt_toInt64, Int32.toInt_toInt64]
/-- an int lies from a to b -/
def zIn (x : Int32) (a b : Int) : Prop := a ≤ x.toInt ∧ x.toInt ≤ b
def zn (x : Int32) : Nat := x.toInt.toNat
theorem zn_eq {x : Int32} (h : 0 ≤ x.toInt) : x = nI (zn x) := by
  have h0 : ¬ x < 0 := by rw [zlt]; show ¬ x.toInt < 0; omega
  obtain ⟨j, hj, rfl⟩ := nI_of h0
  unfold zn
  rw [nI_toInt hj]
  rfl
theorem zn_nI {n : Nat} (h : n < 2 ^ 31) : zn (nI n) = n := by unfold zn; rw [nI_toInt h]; rfl
theorem zIn_nat {x : Int32} {a b : Int} (h : zIn x a b) (ha : 0 ≤ a) : x = nI (zn x) ∧ (zn x : Int) ≤ b ∧ a ≤ (zn x : Int) := by
  obtain ⟨h1, h2⟩ := h
  refine ⟨zn_eq (by omega), ?_, ?_⟩ <;> unfold zn <;> omega
theorem zIn_ex {x : Int32} {a b : Int} (h : zIn x a b) (ha : 0 ≤ a) : ∃ n : Nat, x = nI n ∧ (n : Int) ≤ b ∧ a ≤ (n : Int) := ⟨zn x, zIn_nat h ha⟩
theorem zIn_nI {n : Nat} (hn : n < 2 ^ 31) {a b : Int} : zIn (nI n) a b ↔ a ≤ (n : Int) ∧ (n : Int) ≤ b := by unfold zIn; rw [nI_toInt hn]
/-- 'in' of an int, by longs -/
theorem zIn_l (x : Int32) {a b : Nat} (ha : a < 2 ^ 31) (hb : b < 2 ^ 31) : (lN a ≤ x.toInt64 ∧ x.toInt64 ≤ lN b) ↔ zIn x a b := by
  unfold zIn
  rw [zle64, zle64, lN_toInt ha, lN_toInt hb, Int32.toInt_toInt64]
theorem zIn_w (x y : Int32) {a : Nat} (ha : a < 2 ^ 31) : (lN a ≤ x.toInt64 ∧ x.toInt64 ≤ y.toInt64) ↔ zIn x a y.toInt := by
  unfold zIn
  rw [zle64, zle64, lN_toInt ha, Int32.toInt_toInt64, Int32.toInt_toInt64]
theorem zIn_ww (x z y : Int32) : (z.toInt64 ≤ x.toInt64 ∧ x.toInt64 ≤ y.toInt64) ↔ zIn x z.toInt y.toInt := by
  unfold zIn
  rw [zle64, zle64, Int32.toInt_toInt64, Int32.toInt_toInt64, Int32.toInt_toInt64]
/-- n - 1 as an int, of a number that may be 0 -/
theorem zpred {n : Nat} (h : n < 2 ^ 31) : (nI n - 1).toInt = (n : Int) - 1 := by
  rcases Nat.eq_zero_or_pos n with e | e
  · subst e; decide
  · have : nI n - 1 = nI (n - 1) := pk_sub (b := 1) e
    rw [this, nI_toInt (by omega)]
    omega
/-- an array of ints that holds numbers -/
def nF (B : Nat → Nat) : Nat → Int32 := fun j => nI (B j)
def lF (B : Nat → Nat) : Nat → Int64 := fun j => lN (B j)
theorem nF_up (B : Nat → Nat) (k v : Nat) : upd (nF B) k (nI v) = nF (va_up B k v) := by
  funext j
  unfold upd nF va_up
  by_cases h : j = k
  · rw [if_pos h, if_pos h]
  · rw [if_neg h, if_neg h]
theorem lF_up (B : Nat → Nat) (k v : Nat) : vp_updL (lF B) k (lN v) = lF (va_up B k v) := by
  funext j
  unfold vp_updL lF va_up
  by_cases h : j = k
  · rw [if_pos h, if_pos h]
  · rw [if_neg h, if_neg h]
theorem nF_0 : (fun _ => 0 : Nat → Int32) = nF (fun _ => 0) := rfl
theorem lF_0 : (fun _ => 0 : Nat → Int64) = lF (fun _ => 0) := rfl
/-- a part of a world is had by its members -/
theorem va_P.mem {D : va_G} {cl : List vw_C} {ws : va_W} {H : Heap} (h : va_P D cl ws H) {q : Nat × va_E} (hq : q ∈ ws) : va_at D cl q H := by
  obtain ⟨i, hi⟩ := List.getElem?_of_mem hq
  exact h i q hi
theorem va_P.of {D : va_G} {cl : List vw_C} {ws : va_W} {H : Heap} (h : ∀ q ∈ ws, va_at D cl q H) : va_P D cl ws H := fun _ q hq => h q (List.mem_of_getElem? hq)
theorem va_P.le {D : va_G} {cl : List vw_C} {ws ws' : va_W} {H : Heap} (h : va_P D cl ws H) (hs : ∀ q ∈ ws', q ∈ ws) : va_P D cl ws' H := .of fun q hq => h.mem (hs q hq)
theorem va_P.one {D : va_G} {cl : List vw_C} {ws : va_W} {H : Heap} (h : va_P D cl ws H) {q : Nat × va_E} (hq : q ∈ ws) : va_P D cl [q] H := h.le fun x hx => by rw [List.mem_singleton.mp hx]; exact hq
/-- nothing old has changed: the world stands -/
theorem va_P.all {D : va_G} {cl : List vw_C} {ws : va_W} {H H1 : Heap} {A1 : Nat → Prop} (h : va_P D cl ws H) (hk : ∀ q : Nat, q < H.size → ¬ A1 q → H1[q]? = H[q]?) (hA : ∀ q : Nat, q < H.size → ¬ A1 q) : va_P D cl ws H1 :=
  h.kept fun k q hq => hk q.1 (h k q hq).lt (hA q.1 (h k q hq).lt)
section ZW
variable {p : Program} {l : Launch} {e : Env} {R : Room} {s : State} {m : MethodId} {args : Array Value} {below : List Frame} {meth : Method} {c : Code} {H : Heap} {locs : List Loc} {cells slots : Nat} {Q : State → Prop}
variable {cc : ByteArray} {pc : Nat} {ls : Array Slot} {rest : List Value}
theorem zti {x y : Int32} (h : x = y) (k : W p l e R s m args below meth c H locs cells slots Q (F0 m pc ls (.int y :: rest))) : W p l e R s m args below meth c H locs cells slots Q (F0 m pc ls (.int x :: rest)) := by subst h; exact k
theorem ztl {x y : Int64} (h : x = y) (k : W p l e R s m args below meth c H locs cells slots Q (F0 m pc ls (.long y :: rest))) : W p l e R s m args below meth c H locs cells slots Q (F0 m pc ls (.long x :: rest)) := by subst h; exact k
theorem ztv {x y : Value} (h : x = y) (k : W p l e R s m args below meth c H locs cells slots Q (F0 m pc ls (y :: rest))) : W p l e R s m args below meth c H locs cells slots Q (F0 m pc ls (x :: rest)) := by subst h; exact k
theorem zc_lt (hexec : p.tables.exec = Jvm.exec) (hb : c.code = cc) {a b : Nat} (ha : a < 2 ^ 31) (hb2 : b < 2 ^ 31) {off : Int} {tgt : Nat} (hdg : decode cc pc = .ok (.if_icmp .lt off, 3)) (ht : (pc : Int) + off = (tgt : Int))
    (kt : a < b → W p l e R s m args below meth c H locs cells slots Q (F0 m tgt ls rest)) (kf : ¬ a < b → W p l e R s m args below meth c H locs cells slots Q (F0 m (pc + 3) ls rest)) : W p l e R s m args below meth c H locs cells slots Q (F0 m pc ls (.int (nI b) :: .int (nI a) :: rest)) :=
  lv_icmp_lt hexec hb hdg ht (fun h => kt ((nI_ltI ha hb2).mp h)) (fun h => kf (fun z => h ((nI_ltI ha hb2).mpr z)))
theorem zc_le (hexec : p.tables.exec = Jvm.exec) (hb : c.code = cc) {a b : Nat} (ha : a < 2 ^ 31) (hb2 : b < 2 ^ 31) {off : Int} {tgt : Nat} (hdg : decode cc pc = .ok (.if_icmp .le off, 3)) (ht : (pc : Int) + off = (tgt : Int))
    (kt : a ≤ b → W p l e R s m args below meth c H locs cells slots Q (F0 m tgt ls rest)) (kf : ¬ a ≤ b → W p l e R s m args below meth c H locs cells slots Q (F0 m (pc + 3) ls rest)) : W p l e R s m args below meth c H locs cells slots Q (F0 m pc ls (.int (nI b) :: .int (nI a) :: rest)) :=
  lv_icmp_le hexec hb hdg ht (fun h => kt ((nI_leI ha hb2).mp h)) (fun h => kf (fun z => h ((nI_leI ha hb2).mpr z)))
theorem zc_gt (hexec : p.tables.exec = Jvm.exec) (hb : c.code = cc) {a b : Nat} (ha : a < 2 ^ 31) (hb2 : b < 2 ^ 31) {off : Int} {tgt : Nat} (hdg : decode cc pc = .ok (.if_icmp .gt off, 3)) (ht : (pc : Int) + off = (tgt : Int))
    (kt : b < a → W p l e R s m args below meth c H locs cells slots Q (F0 m tgt ls rest)) (kf : ¬ b < a → W p l e R s m args below meth c H locs cells slots Q (F0 m (pc + 3) ls rest)) : W p l e R s m args below meth c H locs cells slots Q (F0 m pc ls (.int (nI b) :: .int (nI a) :: rest)) :=
  lv_icmp_gt hexec hb hdg ht (fun h => kt ((nI_ltI hb2 ha).mp h)) (fun h => kf (fun z => h ((nI_ltI hb2 ha).mpr z)))
theorem zc_ge (hexec : p.tables.exec = Jvm.exec) (hb : c.code = cc) {a b : Nat} (ha : a < 2 ^ 31) (hb2 : b < 2 ^ 31) {off : Int} {tgt : Nat} (hdg : decode cc pc = .ok (.if_icmp .ge off, 3)) (ht : (pc : Int) + off = (tgt : Int))
    (kt : b ≤ a → W p l e R s m args below meth c H locs cells slots Q (F0 m tgt ls rest)) (kf : ¬ b ≤ a → W p l e R s m args below meth c H locs cells slots Q (F0 m (pc + 3) ls rest)) : W p l e R s m args below meth c H locs cells slots Q (F0 m pc ls (.int (nI b) :: .int (nI a) :: rest)) :=
  lv_icmp_ge hexec hb hdg ht (fun h => kt ((nI_leI hb2 ha).mp h)) (fun h => kf (fun z => h ((nI_leI hb2 ha).mpr z)))
theorem zc_eq (hexec : p.tables.exec = Jvm.exec) (hb : c.code = cc) {a b : Nat} (ha : a < 2 ^ 31) (hb2 : b < 2 ^ 31) {off : Int} {tgt : Nat} (hdg : decode cc pc = .ok (.if_icmp .eq off, 3)) (ht : (pc : Int) + off = (tgt : Int))
    (kt : a = b → W p l e R s m args below meth c H locs cells slots Q (F0 m tgt ls rest)) (kf : ¬ a = b → W p l e R s m args below meth c H locs cells slots Q (F0 m (pc + 3) ls rest)) : W p l e R s m args below meth c H locs cells slots Q (F0 m pc ls (.int (nI b) :: .int (nI a) :: rest)) :=
  lv_icmp_eq hexec hb hdg ht (fun h => kt ((nI_eq ha hb2).mp h)) (fun h => kf (fun z => h ((nI_eq ha hb2).mpr z)))
theorem zc_ne (hexec : p.tables.exec = Jvm.exec) (hb : c.code = cc) {a b : Nat} (ha : a < 2 ^ 31) (hb2 : b < 2 ^ 31) {off : Int} {tgt : Nat} (hdg : decode cc pc = .ok (.if_icmp .ne off, 3)) (ht : (pc : Int) + off = (tgt : Int))
    (kt : ¬ a = b → W p l e R s m args below meth c H locs cells slots Q (F0 m tgt ls rest)) (kf : a = b → W p l e R s m args below meth c H locs cells slots Q (F0 m (pc + 3) ls rest)) : W p l e R s m args below meth c H locs cells slots Q (F0 m pc ls (.int (nI b) :: .int (nI a) :: rest)) :=
  lv_icmp_ne hexec hb hdg ht (fun h => kt (fun z => h ((nI_eq ha hb2).mpr z))) (fun h => kf ((nI_eq ha hb2).mp h))
theorem zi_eq (hexec : p.tables.exec = Jvm.exec) (hb : c.code = cc) {a : Nat} (ha : a < 2 ^ 31) {off : Int} {tgt : Nat} (hdg : decode cc pc = .ok (.ifCond .eq off, 3)) (ht : (pc : Int) + off = (tgt : Int))
    (kt : a = 0 → W p l e R s m args below meth c H locs cells slots Q (F0 m tgt ls rest)) (kf : ¬ a = 0 → W p l e R s m args below meth c H locs cells slots Q (F0 m (pc + 3) ls rest)) : W p l e R s m args below meth c H locs cells slots Q (F0 m pc ls (.int (nI a) :: rest)) :=
  lv_if_eq hexec hb hdg ht (fun h => kt ((nI_eq ha (b := 0) (by decide)).mp h)) (fun h => kf (fun z => h (by rw [z]; rfl)))
theorem zi_ne (hexec : p.tables.exec = Jvm.exec) (hb : c.code = cc) {a : Nat} (ha : a < 2 ^ 31) {off : Int} {tgt : Nat} (hdg : decode cc pc = .ok (.ifCond .ne off, 3)) (ht : (pc : Int) + off = (tgt : Int))
    (kt : ¬ a = 0 → W p l e R s m args below meth c H locs cells slots Q (F0 m tgt ls rest)) (kf : a = 0 → W p l e R s m args below meth c H locs cells slots Q (F0 m (pc + 3) ls rest)) : W p l e R s m args below meth c H locs cells slots Q (F0 m pc ls (.int (nI a) :: rest)) :=
  lv_if_ne hexec hb hdg ht (fun h => kt (fun z => h (by rw [z]; rfl))) (fun h => kf ((nI_eq ha (b := 0) (by decide)).mp h))
theorem zi_gt (hexec : p.tables.exec = Jvm.exec) (hb : c.code = cc) {a : Nat} (ha : a < 2 ^ 31) {off : Int} {tgt : Nat} (hdg : decode cc pc = .ok (.ifCond .gt off, 3)) (ht : (pc : Int) + off = (tgt : Int))
    (kt : 0 < a → W p l e R s m args below meth c H locs cells slots Q (F0 m tgt ls rest)) (kf : ¬ 0 < a → W p l e R s m args below meth c H locs cells slots Q (F0 m (pc + 3) ls rest)) : W p l e R s m args below meth c H locs cells slots Q (F0 m pc ls (.int (nI a) :: rest)) :=
  lv_if_gt hexec hb hdg ht (fun h => kt ((nI_ltI (a := 0) (by decide) ha).mp h)) (fun h => kf (fun z => h ((nI_ltI (a := 0) (by decide) ha).mpr z)))
theorem zi_le (hexec : p.tables.exec = Jvm.exec) (hb : c.code = cc) {a : Nat} (ha : a < 2 ^ 31) {off : Int} {tgt : Nat} (hdg : decode cc pc = .ok (.ifCond .le off, 3)) (ht : (pc : Int) + off = (tgt : Int))
    (kt : ¬ 0 < a → W p l e R s m args below meth c H locs cells slots Q (F0 m tgt ls rest)) (kf : 0 < a → W p l e R s m args below meth c H locs cells slots Q (F0 m (pc + 3) ls rest)) : W p l e R s m args below meth c H locs cells slots Q (F0 m pc ls (.int (nI a) :: rest)) :=
  lv_if_le hexec hb hdg ht (fun h => kt (fun z => absurd ((nI_leI ha (b := 0) (by decide)).mp h) (by omega))) (fun h => kf (by rcases Nat.eq_zero_or_pos a with q | q; (· subst q; exact absurd (show nI 0 ≤ (0 : Int32) from by decide) h); exact q))
/-- a number is not below zero: the branch for that is dead -/
theorem zi_ltN (hexec : p.tables.exec = Jvm.exec) (hb : c.code = cc) {a : Nat} (ha : a < 2 ^ 31) {off : Int} {tgt : Nat} (hdg : decode cc pc = .ok (.ifCond .lt off, 3)) (ht : (pc : Int) + off = (tgt : Int))
    (kf : W p l e R s m args below meth c H locs cells slots Q (F0 m (pc + 3) ls rest)) : W p l e R s m args below meth c H locs cells slots Q (F0 m pc ls (.int (nI a) :: rest)) :=
  lv_if_lt hexec hb hdg ht (fun h => absurd h (nI_pos ha)) (fun _ => kf)
theorem zi_geN (hexec : p.tables.exec = Jvm.exec) (hb : c.code = cc) {a : Nat} (ha : a < 2 ^ 31) {off : Int} {tgt : Nat} (hdg : decode cc pc = .ok (.ifCond .ge off, 3)) (ht : (pc : Int) + off = (tgt : Int))
    (kt : W p l e R s m args below meth c H locs cells slots Q (F0 m tgt ls rest)) : W p l e R s m args below meth c H locs cells slots Q (F0 m pc ls (.int (nI a) :: rest)) :=
  lv_if_ge hexec hb hdg ht (fun _ => kt) (fun h => absurd (nI_pos' ha) h)
theorem zi_eqB (hexec : p.tables.exec = Jvm.exec) (hb : c.code = cc) {P : Prop} {off : Int} {tgt : Nat} (hdg : decode cc pc = .ok (.ifCond .eq off, 3)) (ht : (pc : Int) + off = (tgt : Int))
    (kt : ¬ P → W p l e R s m args below meth c H locs cells slots Q (F0 m tgt ls rest)) (kf : P → W p l e R s m args below meth c H locs cells slots Q (F0 m (pc + 3) ls rest)) : W p l e R s m args below meth c H locs cells slots Q (F0 m pc ls (.int (zB P) :: rest)) :=
  lv_if_eq hexec hb hdg ht (fun h => kt ((zB_0 P).mp h)) (fun h => kf (Classical.byContradiction fun z => h (zB_f z)))
theorem zi_neB (hexec : p.tables.exec = Jvm.exec) (hb : c.code = cc) {P : Prop} {off : Int} {tgt : Nat} (hdg : decode cc pc = .ok (.ifCond .ne off, 3)) (ht : (pc : Int) + off = (tgt : Int))
    (kt : P → W p l e R s m args below meth c H locs cells slots Q (F0 m tgt ls rest)) (kf : ¬ P → W p l e R s m args below meth c H locs cells slots Q (F0 m (pc + 3) ls rest)) : W p l e R s m args below meth c H locs cells slots Q (F0 m pc ls (.int (zB P) :: rest)) :=
  lv_if_ne hexec hb hdg ht (fun h => kt (Classical.byContradiction fun z => h (zB_f z))) (fun h => kf ((zB_0 P).mp h))
/-- two ways meet: what goes on behind them is shown once -/
theorem zjoin {α : Sort _} (φ : α → Prop) (val : α → List Value) (J : Nat) (k : ∀ v, φ v → W p l e R s m args below meth c H locs cells slots Q (F0 m J ls (val v))) {g : JFrame}
    (h : (∀ v, φ v → W p l e R s m args below meth c H locs cells slots Q (F0 m J ls (val v))) → W p l e R s m args below meth c H locs cells slots Q g) : W p l e R s m args below meth c H locs cells slots Q g := h k
/-- a loop that changes no heap, its locals told by the round's number -/
theorem zloop {head nL : Nat} {st : List Value} (n : Nat) (L : Nat → List (Nat × Value))
    (step : ∀ k, k ≤ n → (k < n → ∀ ls, lv_has ls nL (L (k + 1)) → W p l e R s m args below meth c H locs cells slots Q (F0 m head ls st)) → ∀ ls, lv_has ls nL (L k) → W p l e R s m args below meth c H locs cells slots Q (F0 m head ls st))
    (k0 : Nat) (h0 : k0 ≤ n) (hl : lv_has ls nL (L k0)) : W p l e R s m args below meth c H locs cells slots Q (F0 m head ls st) := by
  have key : ∀ d k, k + d = n → ∀ ls, lv_has ls nL (L k) → W p l e R s m args below meth c H locs cells slots Q (F0 m head ls st) := by
    intro d
    induction d with
    | zero => intro k hk; exact step k (by omega) (fun z => absurd z (by omega))
    | succ d ih => intro k hk; exact step k (by omega) (fun _ => ih (k + 1) (by omega))
  exact key (n - k0) k0 (by omega) ls hl
/-- a loop that changes no heap, by a measure -/
theorem zloopM {σ : Type} {head nL : Nat} {st : List Value} (μ : σ → Nat) (I : σ → Prop) (L : σ → List (Nat × Value))
    (step : ∀ x, I x → (∀ y, I y → μ y < μ x → ∀ ls, lv_has ls nL (L y) → W p l e R s m args below meth c H locs cells slots Q (F0 m head ls st)) → ∀ ls, lv_has ls nL (L x) → W p l e R s m args below meth c H locs cells slots Q (F0 m head ls st))
    (x : σ) (hI : I x) (hl : lv_has ls nL (L x)) : W p l e R s m args below meth c H locs cells slots Q (F0 m head ls st) := by
  have key : ∀ d x, μ x < d → I x → ∀ ls, lv_has ls nL (L x) → W p l e R s m args below meth c H locs cells slots Q (F0 m head ls st) := by
    intro d
    induction d with
    | zero => intro x h; omega
    | succ d ih => intro x h hI; exact step x hI (fun y hy hm => ih y (by omega) hy)
  exact key (μ x + 1) x (by omega) hI ls hl
/-- a loop that changes the heap: what holds at its head is told by P -/
theorem zloopW {head : Nat} {st : List Value} (n : Nat) (P : Nat → Heap → List Loc → Nat → Nat → Array Slot → Prop)
    (step : ∀ k, k ≤ n → (k < n → ∀ H locs cells slots ls, P (k + 1) H locs cells slots ls → W p l e R s m args below meth c H locs cells slots Q (F0 m head ls st)) → ∀ H locs cells slots ls, P k H locs cells slots ls → W p l e R s m args below meth c H locs cells slots Q (F0 m head ls st))
    (k0 : Nat) (h0 : k0 ≤ n) (hl : P k0 H locs cells slots ls) : W p l e R s m args below meth c H locs cells slots Q (F0 m head ls st) := by
  have key : ∀ d k, k + d = n → ∀ H locs cells slots ls, P k H locs cells slots ls → W p l e R s m args below meth c H locs cells slots Q (F0 m head ls st) := by
    intro d
    induction d with
    | zero => intro k hk; exact step k (by omega) (fun z => absurd z (by omega))
    | succ d ih => intro k hk; exact step k (by omega) (fun _ => ih (k + 1) (by omega))
  exact key (n - k0) k0 (by omega) H locs cells slots ls hl
theorem zloopV {σ : Type} {head : Nat} {st : List Value} (μ : σ → Nat) (P : σ → Heap → List Loc → Nat → Nat → Array Slot → Prop)
    (step : ∀ x, (∀ y, μ y < μ x → ∀ H locs cells slots ls, P y H locs cells slots ls → W p l e R s m args below meth c H locs cells slots Q (F0 m head ls st)) → ∀ H locs cells slots ls, P x H locs cells slots ls → W p l e R s m args below meth c H locs cells slots Q (F0 m head ls st))
    (x : σ) (hl : P x H locs cells slots ls) : W p l e R s m args below meth c H locs cells slots Q (F0 m head ls st) := by
  have key : ∀ d x, μ x < d → ∀ H locs cells slots ls, P x H locs cells slots ls → W p l e R s m args below meth c H locs cells slots Q (F0 m head ls st) := by
    intro d
    induction d with
    | zero => intro x h; omega
    | succ d ih => intro x h; exact step x (fun y hm => ih y (by omega))
  exact key (μ x + 1) x (by omega) H locs cells slots ls hl
end ZW
section ZA
variable {p : Program} {l : Launch} {e : Env} {R : Room} {s : State} {m : MethodId} {args : Array Value} {below : List Frame} {meth : Method} {c : Code} {H : Heap} {locs : List Loc} {cells slots : Nat} {Q : State → Prop}
variable {cc : ByteArray} {pc : Nat} {ls : Array Slot} {rest : List Value} {D : va_G} {cl : List vw_C} {A : Nat → Prop} {a : Nat} {tys : List (ClassId × FieldType)} {ws : va_W} {H0 : Heap}
/-- arrays at a place that is a number -/
theorem zald (hexec : p.tables.exec = Jvm.exec) (hb : c.code = cc) (hK : va_K D cl tys s) (hP : va_P D cl ws H) (q0 t0 : Nat) {cA : ClassId} {n : Nat} {f : Nat → Int32} (ha : ws[q0]? = some (a, .inl (cA, n, .inl f))) (ht : tys[t0]? = some (cA, .int)) {j : Nat} (hj : j < n) (hn : n < 2 ^ 31) (hdg : decode cc pc = .ok (.iaload, 1))
    (kk : W p l e R s m args below meth c H locs cells slots Q (F0 m (pc + 1) ls (.int (f j) :: rest))) : W p l e R s m args below meth c H locs cells slots Q (F0 m pc ls (.int (nI j) :: .ref a :: rest)) :=
  va_iald hexec hb hK hP q0 t0 ha ht (vp_in_nI hj hn) hdg (by rw [nI_clamp (by omega)]; exact kk)
theorem zalb (hexec : p.tables.exec = Jvm.exec) (hb : c.code = cc) (hK : va_K D cl tys s) (hP : va_P D cl ws H) (q0 t0 : Nat) {cA : ClassId} {n : Nat} {f : Nat → Int32} (ha : ws[q0]? = some (a, .inl (cA, n, .inl f))) (ht : tys[t0]? = some (cA, .byte)) {j : Nat} (hj : j < n) (hn : n < 2 ^ 31) (hdg : decode cc pc = .ok (.baload, 1))
    (kk : W p l e R s m args below meth c H locs cells slots Q (F0 m (pc + 1) ls (.int (f j) :: rest))) : W p l e R s m args below meth c H locs cells slots Q (F0 m pc ls (.int (nI j) :: .ref a :: rest)) :=
  va_bald hexec hb hK hP q0 t0 ha ht (vp_in_nI hj hn) hdg (by rw [nI_clamp (by omega)]; exact kk)
theorem zalz (hexec : p.tables.exec = Jvm.exec) (hb : c.code = cc) (hK : va_K D cl tys s) (hP : va_P D cl ws H) (q0 t0 : Nat) {cA : ClassId} {n : Nat} {f : Nat → Int32} (ha : ws[q0]? = some (a, .inl (cA, n, .inl f))) (ht : tys[t0]? = some (cA, .boolean)) {j : Nat} (hj : j < n) (hn : n < 2 ^ 31) (hdg : decode cc pc = .ok (.baload, 1))
    (kk : W p l e R s m args below meth c H locs cells slots Q (F0 m (pc + 1) ls (.int (f j) :: rest))) : W p l e R s m args below meth c H locs cells slots Q (F0 m pc ls (.int (nI j) :: .ref a :: rest)) :=
  va_zald hexec hb hK hP q0 t0 ha ht (vp_in_nI hj hn) hdg (by rw [nI_clamp (by omega)]; exact kk)
theorem zall (hexec : p.tables.exec = Jvm.exec) (hb : c.code = cc) (hK : va_K D cl tys s) (hP : va_P D cl ws H) (q0 t0 : Nat) {cA : ClassId} {n : Nat} {f : Nat → Int64} (ha : ws[q0]? = some (a, .inl (cA, n, .inr (.inl f)))) (ht : tys[t0]? = some (cA, .long)) {j : Nat} (hj : j < n) (hn : n < 2 ^ 31) (hdg : decode cc pc = .ok (.laload, 1))
    (kk : W p l e R s m args below meth c H locs cells slots Q (F0 m (pc + 1) ls (.long (f j) :: rest))) : W p l e R s m args below meth c H locs cells slots Q (F0 m pc ls (.int (nI j) :: .ref a :: rest)) :=
  va_lald hexec hb hK hP q0 t0 ha ht (vp_in_nI hj hn) hdg (by rw [nI_clamp (by omega)]; exact kk)
theorem zalq (hexec : p.tables.exec = Jvm.exec) (hb : c.code = cc) (hK : va_K D cl tys s) (hP : va_P D cl ws H) (q0 t0 : Nat) {cA : ClassId} {C : String} {n : Nat} {f : Nat → Option Nat} (ha : ws[q0]? = some (a, .inl (cA, n, .inr (.inr (.inr (.inr f)))))) (ht : tys[t0]? = some (cA, .object C)) {j : Nat} (hj : j < n) (hn : n < 2 ^ 31) (hdg : decode cc pc = .ok (.aaload, 1))
    (kk : W p l e R s m args below meth c H locs cells slots Q (F0 m (pc + 1) ls (va_rf (f j) :: rest))) : W p l e R s m args below meth c H locs cells slots Q (F0 m pc ls (.int (nI j) :: .ref a :: rest)) :=
  va_aldq hexec hb hK hP q0 t0 ha ht (vp_in_nI hj hn) hdg (by rw [nI_clamp (by omega)]; exact kk)
theorem zast (hexec : p.tables.exec = Jvm.exec) (hb : c.code = cc) (hK : va_K D cl tys s) (hP : va_P D cl ws H) (hD : va_D A ws) (hS : va_S A H0 H locs) (q0 t0 : Nat) {cA : ClassId} {n : Nat} {f : Nat → Int32} (ha : ws[q0]? = some (a, .inl (cA, n, .inl f))) (ht : tys[t0]? = some (cA, .int)) {j : Nat} {x : Int32} (hj : j < n) (hn : n < 2 ^ 31) (hdg : decode cc pc = .ok (.iastore, 1))
    (kk : ∀ (H1 : Heap) (locs1 : List Loc), va_P D cl (ws.set q0 (a, .inl (cA, n, .inl (upd f j x)))) H1 → va_D A (ws.set q0 (a, .inl (cA, n, .inl (upd f j x)))) → va_S A H0 H1 locs1 → W p l e R s m args below meth c H1 locs1 cells slots Q (F0 m (pc + 1) ls rest)) : W p l e R s m args below meth c H locs cells slots Q (F0 m pc ls (.int x :: .int (nI j) :: .ref a :: rest)) :=
  va_iast hexec hb hK hP hD hS q0 t0 ha ht (vp_in_nI hj hn) hdg (by rw [nI_clamp (by omega)]; exact kk)
theorem zasb (hexec : p.tables.exec = Jvm.exec) (hb : c.code = cc) (hK : va_K D cl tys s) (hP : va_P D cl ws H) (hD : va_D A ws) (hS : va_S A H0 H locs) (q0 t0 : Nat) {cA : ClassId} {n : Nat} {f : Nat → Int32} (ha : ws[q0]? = some (a, .inl (cA, n, .inl f))) (ht : tys[t0]? = some (cA, .byte)) {j : Nat} {x : Int32} (hj : j < n) (hn : n < 2 ^ 31) (hdg : decode cc pc = .ok (.bastore, 1))
    (kk : ∀ (H1 : Heap) (locs1 : List Loc), va_P D cl (ws.set q0 (a, .inl (cA, n, .inl (upd f j (vp_nar .byte x))))) H1 → va_D A (ws.set q0 (a, .inl (cA, n, .inl (upd f j (vp_nar .byte x))))) → va_S A H0 H1 locs1 → W p l e R s m args below meth c H1 locs1 cells slots Q (F0 m (pc + 1) ls rest)) : W p l e R s m args below meth c H locs cells slots Q (F0 m pc ls (.int x :: .int (nI j) :: .ref a :: rest)) :=
  va_bast hexec hb hK hP hD hS q0 t0 ha ht (vp_in_nI hj hn) hdg (by rw [nI_clamp (by omega)]; exact kk)
theorem zasz (hexec : p.tables.exec = Jvm.exec) (hb : c.code = cc) (hK : va_K D cl tys s) (hP : va_P D cl ws H) (hD : va_D A ws) (hS : va_S A H0 H locs) (q0 t0 : Nat) {cA : ClassId} {n : Nat} {f : Nat → Int32} (ha : ws[q0]? = some (a, .inl (cA, n, .inl f))) (ht : tys[t0]? = some (cA, .boolean)) {j : Nat} {P : Prop} (hj : j < n) (hn : n < 2 ^ 31) (hdg : decode cc pc = .ok (.bastore, 1))
    (kk : ∀ (H1 : Heap) (locs1 : List Loc), va_P D cl (ws.set q0 (a, .inl (cA, n, .inl (upd f j (zB P))))) H1 → va_D A (ws.set q0 (a, .inl (cA, n, .inl (upd f j (zB P))))) → va_S A H0 H1 locs1 → W p l e R s m args below meth c H1 locs1 cells slots Q (F0 m (pc + 1) ls rest)) : W p l e R s m args below meth c H locs cells slots Q (F0 m pc ls (.int (zB P) :: .int (nI j) :: .ref a :: rest)) :=
  va_zast hexec hb hK hP hD hS q0 t0 ha ht (vp_in_nI hj hn) hdg (by
    rw [nI_clamp (by omega)]
    have e : vp_nar .boolean (zB P) = zB P := by unfold vp_nar; rw [zB_nar]
    rw [e]
    exact kk)
theorem zasl (hexec : p.tables.exec = Jvm.exec) (hb : c.code = cc) (hK : va_K D cl tys s) (hP : va_P D cl ws H) (hD : va_D A ws) (hS : va_S A H0 H locs) (q0 t0 : Nat) {cA : ClassId} {n : Nat} {f : Nat → Int64} (ha : ws[q0]? = some (a, .inl (cA, n, .inr (.inl f)))) (ht : tys[t0]? = some (cA, .long)) {j : Nat} {x : Int64} (hj : j < n) (hn : n < 2 ^ 31) (hdg : decode cc pc = .ok (.lastore, 1))
    (kk : ∀ (H1 : Heap) (locs1 : List Loc), va_P D cl (ws.set q0 (a, .inl (cA, n, .inr (.inl (vp_updL f j x))))) H1 → va_D A (ws.set q0 (a, .inl (cA, n, .inr (.inl (vp_updL f j x))))) → va_S A H0 H1 locs1 → W p l e R s m args below meth c H1 locs1 cells slots Q (F0 m (pc + 1) ls rest)) : W p l e R s m args below meth c H locs cells slots Q (F0 m pc ls (.long x :: .int (nI j) :: .ref a :: rest)) :=
  va_last hexec hb hK hP hD hS q0 t0 ha ht (vp_in_nI hj hn) hdg (by rw [nI_clamp (by omega)]; exact kk)
end ZA
