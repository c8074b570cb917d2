/-! THE BASE: the system's memory as a value, what a heap holds of it, the judgement GG and its rows. Printed by gen/base.py. -/
set_option maxRecDepth 100000
abbrev XS : Type := (Nat → Nat → Int32) × (Nat → Nat → Int64) × (Nat → Nat → Option Nat) × (Nat → Nat → Int32) × (Nat → Nat → Int64) × (Nat → Nat → Option Nat) × (Nat → Nat) × (Nat → Nat) × Nat
def xI (M : XS) : Nat → Nat → Int32 := M.1
def xL (M : XS) : Nat → Nat → Int64 := M.2.1
def xR (M : XS) : Nat → Nat → Option Nat := M.2.2.1
def xi (M : XS) : Nat → Nat → Int32 := M.2.2.2.1
def xl (M : XS) : Nat → Nat → Int64 := M.2.2.2.2.1
def xr (M : XS) : Nat → Nat → Option Nat := M.2.2.2.2.2.1
def xn (M : XS) : Nat → Nat := M.2.2.2.2.2.2.1
def xc (M : XS) : Nat → Nat := M.2.2.2.2.2.2.2.1
def xz (M : XS) : Nat := M.2.2.2.2.2.2.2.2
def up2 {α : Type} (g : Nat → Nat → α) (f a : Nat) (v : α) : Nat → Nat → α := fun x y => if x = f ∧ y = a then v else g x y
def up1 {α : Type} (g : Nat → α) (a : Nat) (v : α) : Nat → α := fun y => if y = a then v else g y
def sI (M : XS) (f a : Nat) (v : Int32) : XS := (up2 M.1 f a v, M.2)
def sL (M : XS) (f a : Nat) (v : Int64) : XS := (M.1, up2 M.2.1 f a v, M.2.2)
def sR (M : XS) (f a : Nat) (v : Option Nat) : XS := (M.1, M.2.1, up2 M.2.2.1 f a v, M.2.2.2)
def si (M : XS) (a j : Nat) (v : Int32) : XS := (M.1, M.2.1, M.2.2.1, up2 M.2.2.2.1 a j v, M.2.2.2.2)
def sl (M : XS) (a j : Nat) (v : Int64) : XS := (M.1, M.2.1, M.2.2.1, M.2.2.2.1, up2 M.2.2.2.2.1 a j v, M.2.2.2.2.2)
def sr (M : XS) (a j : Nat) (v : Option Nat) : XS := (M.1, M.2.1, M.2.2.1, M.2.2.2.1, M.2.2.2.2.1, up2 M.2.2.2.2.2.1 a j v, M.2.2.2.2.2.2)
/-- a new object or array: class word c, length n, at the next place -/
def nw (M : XS) (c n : Nat) : XS := (M.1, M.2.1, M.2.2.1, M.2.2.2.1, M.2.2.2.2.1, M.2.2.2.2.2.1, up1 M.2.2.2.2.2.2.1 M.2.2.2.2.2.2.2.2 n, up1 M.2.2.2.2.2.2.2.1 M.2.2.2.2.2.2.2.2 c, M.2.2.2.2.2.2.2.2 + 1)
abbrev MS : Type := (Nat → Int32) × (Nat → Int64) × (Nat → Nat → Int32) × (Nat → Nat → Int64)
def mI (S : MS) : Nat → Int32 := S.1
def mL (S : MS) : Nat → Int64 := S.2.1
def mA (S : MS) : Nat → Nat → Int32 := S.2.2.1
def mB (S : MS) : Nat → Nat → Int64 := S.2.2.2
def msI (S : MS) (k : Nat) (v : Int32) : MS := (up1 S.1 k v, S.2)
def msL (S : MS) (k : Nat) (v : Int64) : MS := (S.1, up1 S.2.1 k v, S.2.2)
def msA (S : MS) (k j : Nat) (v : Int32) : MS := (S.1, S.2.1, up2 S.2.2.1 k j v, S.2.2.2)
def msB (S : MS) (k j : Nat) (v : Int64) : MS := (S.1, S.2.1, S.2.2.1, up2 S.2.2.2 k j v)
/-- tables: kinds of the fields by their numbers; the classes; each class's first field number; the model's fields' kinds, arrays, lengths -/
def fkL : List Nat := [2, 2, 2, 2, 2, 2, 0, 0, 0, 0, 0, 1, 1, 2, 2, 2, 0, 2, 2, 2, 2, 2, 2, 2, 0, 0, 0, 0, 0, 0, 0, 0, 2, 0, 2, 2, 0, 0, 0, 0, 2, 0, 0, 0, 0, 0, 3, 3, 2, 0, 0, 0, 0, 2, 2, 2, 0, 0, 0, 0, 2, 2, 2, 2, 2, 0, 0, 0, 0, 0, 2, 2, 0, 0, 0, 2, 0, 0, 0, 0, 1, 0, 0, 0, 0, 0, 0, 0, 0, 0, 0, 0, 0, 0, 0, 0, 0, 0, 0, 0, 0, 0, 0, 0, 0, 2, 2, 2, 2, 0, 0, 0, 0, 0, 0, 0, 0, 0, 0, 0, 0, 0, 1, 1, 2, 2, 2, 2, 0, 0, 0, 0, 0, 0, 0, 0, 0, 0, 0, 1, 2, 2, 0, 2, 2, 0, 0, 2, 2, 2, 2, 2, 2, 2, 2, 0, 0, 0, 0, 0, 0, 0, 0, 0, 0, 2, 0]
def fkd (f : Nat) : Nat := fkL.getD f 0
def gcl : List vw_C := [(RX8, TX8, 10), (RX11, TX11, 8), (RX10, TX10, 10), (RX9, TX9, 9), (RX0, TX0, 37), (RX2, TX2, 16), (RX3, TX3, 8), (RX4, TX4, 4), (RX5, TX5, 2), (RX12, TX12, 9), (RX13, TX13, 6), (RX6, TX6, 47)]
def fbL : List Nat := [80, 80, 80, 80, 0, 40, 60, 70, 75, 95, 105, 120]
def fb (ci : Nat) : Nat := fbL.getD ci 0
def mkL : List Nat := [0, 0, 1, 1, 2, 2, 2, 2, 0, 0, 0, 0, 0, 0, 0, 0, 0, 0, 0, 1, 2, 2, 0, 2, 2, 0, 0, 2, 2, 2, 2, 2, 2, 2, 2, 0, 0, 0, 0, 0, 0, 0, 0, 0, 0, 2, 0]
def mkd (k : Nat) : Nat := mkL.getD k 0
def mtL : List Nat := [9, 9, 9, 9, 0, 0, 3, 1, 9, 9, 9, 9, 9, 9, 9, 9, 9, 9, 9, 9, 0, 3, 9, 0, 0, 9, 9, 3, 0, 0, 0, 0, 0, 0, 0, 9, 9, 9, 9, 9, 9, 9, 9, 9, 9, 0, 9]
def mtg (k : Nat) : Nat := mtL.getD k 9
def mlL : List Nat := [0, 0, 0, 0, 4, 4, 240, 900, 0, 0, 0, 0, 0, 0, 0, 0, 0, 0, 0, 0, 1800, 100, 0, 16, 16, 0, 0, 65536, 16, 20, 20, 20, 20, 5, 4, 0, 0, 0, 0, 0, 0, 0, 0, 0, 0, 16, 0]
def mln (k : Nat) : Nat := mlL.getD k 0
/-- constants of a run: launch, classes and slots, classes of arrays, addresses of the texts and of their bytes, of the model and its arrays, where the law's own cells begin -/
abbrev gK : Type := Launch × va_G × (Nat → ClassId) × (Nat → Nat) × (Nat → Nat) × Nat × (Nat → Nat) × Nat
def kl (K : gK) : Launch := K.1
def kD (K : gK) : va_G := K.2.1
def kA (K : gK) : Nat → ClassId := K.2.2.1
def kS (K : gK) : Nat → Nat := K.2.2.2.1
def kV (K : gK) : Nat → Nat := K.2.2.2.2.1
def kh (K : gK) : Nat := K.2.2.2.2.2.1
def km (K : gK) : Nat → Nat := K.2.2.2.2.2.2.1
def kz (K : gK) : Nat := K.2.2.2.2.2.2.2
def gA (K : gK) : Nat → Prop := fun q => kz K ≤ q
def fval (K : gK) (M : XS) (f a : Nat) : Value := match fkd f with
  | 0 => .int (xI M f a)
  | 1 => .long (xL M f a)
  | 2 => va_rf (xR M f a)
  | _ => va_rf ((xR M f a).map (kS K))
def aval (M : XS) (t a j : Nat) : Value := match t with
  | 0 => .int (xi M a j)
  | 1 => .int (xi M a j)
  | 2 => .int (xi M a j)
  | 3 => .long (xl M a j)
  | _ => va_rf (xr M a j)
def mval (K : gK) (S : MS) (k : Nat) : Value := match mkd k with
  | 0 => .int (mI S k)
  | 1 => .long (mL S k)
  | _ => .ref (km K k)
def mav (S : MS) (k j : Nat) : Value := match mtg k with
  | 0 => .int (mA S k j)
  | 1 => .int (mA S k j)
  | _ => .long (mB S k j)
def gty (t : Nat) : FieldType := match t with
  | 0 => .int
  | 1 => .byte
  | 2 => .short
  | 3 => .long
  | 4 => .object "SwapBook$Change"
  | 5 => .object "SwapBook$Tray"
  | 6 => .object "SwapBook$Step"
  | _ => .object "SwapBook$Kept"
def gtys (K : gK) : List (ClassId × FieldType) := [(kA K 0, gty 0), (kA K 1, gty 1), (kA K 2, gty 2), (kA K 3, gty 3), (kA K 4, gty 4), (kA K 5, gty 5), (kA K 6, gty 6), (kA K 7, gty 7)]
/-- what a heap holds of the system's memory -/
def RX (K : gK) (M : XS) (H : Heap) : Prop :=
  (∀ (a ci : Nat) (r : vw_C), xc M a = ci + 1 → gcl[ci]? = some r → t_OB a ((kD K).1 ci) r.2.2 ((kD K).2 ci) H (fun k => fval K M (fb ci + k) a)) ∧
  (∀ a t : Nat, xc M a = 100 + t → t < 8 → H[a]? = some (arrV (kA K t) (xn M a) (fun j => aval M t a j))) ∧
  (∀ a : Nat, xc M a ≠ 0 → kz K ≤ a) ∧ xz M = H.size ∧
  (∀ a : Nat, xz M ≤ a → xc M a = 0 ∧ ∀ f : Nat, xI M f a = 0 ∧ xL M f a = 0 ∧ xR M f a = none ∧ xi M a f = 0 ∧ xl M a f = 0 ∧ xr M a f = none)
/-- .. and of the model -/
def RM (K : gK) (S : MS) (H : Heap) : Prop :=
  t_OB (kh K) ((kD K).1 11) 47 ((kD K).2 11) H (fun k => mval K S k) ∧ (∀ k : Nat, mln k ≠ 0 → H[km K k]? = some (arrV (kA K (mtg k)) (mln k) (fun j => mav S k j))) ∧
  kz K ≤ kh K ∧ (∀ k : Nat, mln k ≠ 0 → kz K ≤ km K k ∧ km K k ≠ kh K ∧ ∀ j : Nat, mln j ≠ 0 → km K k = km K j → k = j)
def MD (K : gK) (M : XS) : Prop := xc M (kh K) = 0 ∧ ∀ k : Nat, mln k ≠ 0 → xc M (km K k) = 0
def RP (K : gK) (M : XS) (S : Option MS) (H : Heap) : Prop := RX K M H ∧ ∀ T : MS, S = some T → RM K T H ∧ MD K M
/-- words of the tables that go by themselves -/
def gNest (w : Cond) : Bool := match w with
  | .fieldLinkNest _ _ _ _ _ _ => true
  | .methodLinkNest _ _ _ _ => true
  | .castable _ _ => true
  | .declares _ => true
  | .arrayOver (.object _) => true
  | _ => false
theorem obd_some {α β : Type} {x : Option α} {k : α → Option β} {r : β} (h : x.bind k = some r) : ∃ v, x = some v ∧ k v = some r := by
  cases x with
  | none => cases h
  | some v => exact ⟨v, rfl, h⟩
theorem gd_some {c : Prop} [Decidable c] {β : Type} {k : Option β} {r : β} (h : (if c then k else none) = some r) : c ∧ k = some r := by
  by_cases hc : c
  · rw [if_pos hc] at h; exact ⟨hc, h⟩
  · rw [if_neg hc] at h; cases h
theorem if_t {c : Prop} [Decidable c] {β : Type} {x y r : β} (h : (if c then x else y) = r) (hc : c) : x = r := by rw [if_pos hc] at h; exact h
theorem if_f {c : Prop} [Decidable c] {β : Type} {x y r : β} (h : (if c then x else y) = r) (hc : ¬ c) : y = r := by rw [if_neg hc] at h; exact h
def lt_ {α β : Type} (x : α) (k : α → β) : β := k x
theorem lt_e {α β : Type} {x : α} {k : α → β} {r : β} (h : lt_ x k = r) : ∃ v, v = x ∧ k v = r := ⟨x, rfl, h⟩
/-- a loop's fuel -/
def FU : Nat := 100000
/-- depth of recursion -/
def DU : Nat := 20
/-- array reads and writes that say where they fail -/
def inr (i : Int32) (n : Nat) : Prop := ¬ (i < 0 ∨ n ≤ i.toNatClampNeg)
abbrev xild (M : XS) (t a : Nat) (i : Int32) : Option Int32 := if xc M a = 100 + t ∧ ¬ (i < 0 ∨ xn M a ≤ i.toNatClampNeg) then some (xi M a i.toNatClampNeg) else none
abbrev xist (M : XS) (t a : Nat) (i v : Int32) : Option XS := if xc M a = 100 + t ∧ ¬ (i < 0 ∨ xn M a ≤ i.toNatClampNeg) then some (si M a i.toNatClampNeg v) else none
abbrev xlld (M : XS) (a : Nat) (i : Int32) : Option Int64 := if xc M a = 103 ∧ ¬ (i < 0 ∨ xn M a ≤ i.toNatClampNeg) then some (xl M a i.toNatClampNeg) else none
abbrev xlst (M : XS) (a : Nat) (i : Int32) (v : Int64) : Option XS := if xc M a = 103 ∧ ¬ (i < 0 ∨ xn M a ≤ i.toNatClampNeg) then some (sl M a i.toNatClampNeg v) else none
abbrev xrld (M : XS) (t a : Nat) (i : Int32) : Option Nat := if xc M a = 100 + t ∧ ¬ (i < 0 ∨ xn M a ≤ i.toNatClampNeg) then xr M a i.toNatClampNeg else none
abbrev xrst (M : XS) (t a : Nat) (i : Int32) (v : Nat) : Option XS := if xc M a = 100 + t ∧ ¬ (i < 0 ∨ xn M a ≤ i.toNatClampNeg) then some (sr M a i.toNatClampNeg (some v)) else none
def mild (S : MS) (k : Nat) (i : Int32) : Option Int32 := if mtg k ≤ 1 ∧ ¬ (i < 0 ∨ mln k ≤ i.toNatClampNeg) then some (mA S k i.toNatClampNeg) else none
def mist (S : MS) (k : Nat) (i v : Int32) : Option MS := if mtg k ≤ 1 ∧ ¬ (i < 0 ∨ mln k ≤ i.toNatClampNeg) then some (msA S k i.toNatClampNeg v) else none
def mlld (S : MS) (k : Nat) (i : Int32) : Option Int64 := if mtg k = 3 ∧ ¬ (i < 0 ∨ mln k ≤ i.toNatClampNeg) then some (mB S k i.toNatClampNeg) else none
def mlst (S : MS) (k : Nat) (i : Int32) (v : Int64) : Option MS := if mtg k = 3 ∧ ¬ (i < 0 ∨ mln k ≤ i.toNatClampNeg) then some (msB S k i.toNatClampNeg v) else none
/-- private methods of the Reader's superclass -/
def gsel : List Cond := [Cond.selects RX2 yX1_at yX1_at, Cond.selects RX2 yX1_isSign yX1_isSign, Cond.selects RX2 yX1_isWord yX1_isWord]
def gStx : String := " put take name move settle island key says of not after make ship out pick wait draw when loop stop end at to late twice has quiet day "
def gSlen : List Nat := [135, 1]
def gSbyt : List (List Int32) := [[32, 112, 117, 116, 32, 116, 97, 107, 101, 32, 110, 97, 109, 101, 32, 109, 111, 118, 101, 32, 115, 101, 116, 116, 108, 101, 32, 105, 115, 108, 97, 110, 100, 32, 107, 101, 121, 32, 115, 97, 121, 115, 32, 111, 102, 32, 110, 111, 116, 32, 97, 102, 116, 101, 114, 32, 109, 97, 107, 101, 32, 115, 104, 105, 112, 32, 111, 117, 116, 32, 112, 105, 99, 107, 32, 119, 97, 105, 116, 32, 100, 114, 97, 119, 32, 119, 104, 101, 110, 32, 108, 111, 111, 112, 32, 115, 116, 111, 112, 32, 101, 110, 100, 32, 97, 116, 32, 116, 111, 32, 108, 97, 116, 101, 32, 116, 119, 105, 99, 101, 32, 104, 97, 115, 32, 113, 117, 105, 101, 116, 32, 100, 97, 121, 32], [59]]
/-- what holds of the tables all through a run -/
def gT (K : gK) (U : State) (H : Heap) : Prop := va_K (kD K) gcl (gtys K) U ∧ (∀ w ∈ lw_tbl, gNest w = true → va_Nw w U) ∧ vk_S 2 gSlen gSbyt (kS K) (kV K) (gA K) U H ∧
  vk_R "SwapBook$Scan" 94 gStx (kS K 0) U ∧ vk_R "SwapBook$Reader" 3 gStx (kS K 0) U ∧ vk_R "SwapBook$Reader" 5 ";" (kS K 1) U ∧ (∀ w ∈ gsel, va_Nw w U) ∧
  va_Nc "SwapBook$Take" "SwapBook$Put" U ∧ va_Nc "SwapBook$Other" "SwapBook$Put" U ∧ va_Nc "SwapBook$Settle" "SwapBook$Put" U
theorem gT.step {K : gK} {s U : State} {H : Heap} {locs : List Loc} (h : gT K s s.heap) (hS : va_S (gA K) s.heap H locs) (hW : s.WarmedH U.vm) : gT K U H := by
  obtain ⟨h1, h2, h3, h4, h5, h6, h7, h8, h9, h10⟩ := h
  refine ⟨h1.moved hW.alike, ?_, (h3.moved hW.alike).kept hS.2.1, h4.warm hW, h5.warm hW, h6.warm hW, ?_, h8.moved hW.alike, h9.moved hW.alike, h10.moved hW.alike⟩
  case refine_2 =>
    intro w hw
    have hz := h7 w hw
    unfold gsel at hw
    simp only [List.mem_cons, List.not_mem_nil, or_false] at hw
    rcases hw with e | e | e <;> (rw [e] at hz ⊢; exact word_at hW (Or.inl rfl) hz)
  intro w hw hn
  have hz := h2 w hw hn
  cases w with
  | fieldLinkNest a b c d e f => exact hz.warmF hW
  | methodLinkNest a b c d => exact hz.warmM hW
  | castable a b => exact hz.warmC hW
  | declares a => exact hz.warmD hW
  | arrayOver a => cases a with
    | object C => exact va_AO.moved (C := C) hW.alike hz
    | _ => exact absurd hn (by simp [gNest])
  | _ => exact absurd hn (by simp [gNest])
theorem gT.calling {K : gK} {U : State} {H : Heap} {g : JFrame} {mk : MethodId} {a : Array Value} (h : gT K U H) : gT K (U.calling g mk a) H := by
  obtain ⟨h1, h2, h3, h4, h5, h6, h7, h8, h9, h10⟩ := h
  refine ⟨va_K.moved (u := U) (U := U.calling g mk a) (Vm.Alike.refl U.vm) h1, ?_, vk_S.moved (u := U) (U := U.calling g mk a) (Vm.Alike.refl U.vm) h3, vk_R.same rfl h4, vk_R.same rfl h5, vk_R.same rfl h6, ?_, va_Nc.moved (u := U) (U := U.calling g mk a) (Vm.Alike.refl U.vm) h8, va_Nc.moved (u := U) (U := U.calling g mk a) (Vm.Alike.refl U.vm) h9, va_Nc.moved (u := U) (U := U.calling g mk a) (Vm.Alike.refl U.vm) h10⟩
  case refine_2 =>
    intro w hw
    have hz := h7 w hw
    unfold gsel at hw
    simp only [List.mem_cons, List.not_mem_nil, or_false] at hw
    rcases hw with e | e | e <;> (rw [e] at hz ⊢; exact va_Nw.same rfl rfl hz)
  intro w hw hn
  have hz := h2 w hw hn
  cases w with
  | fieldLinkNest a b c d e f => exact hz.same rfl rfl
  | methodLinkNest a b c d => exact hz.same rfl rfl
  | castable a b => exact hz.same rfl rfl
  | declares a => exact hz.same rfl rfl
  | arrayOver a' => cases a' with
    | object C => exact va_AO.moved (C := C) (u := U) (U := U.calling g mk a) (Vm.Alike.refl U.vm) hz
    | _ => exact absurd hn (by simp [gNest])
  | _ => exact absurd hn (by simp [gNest])
/-- a state that a method starts from or ends in -/
def GSt (K : gK) (M : XS) (S : Option MS) (U : State) : Prop := RP K M S U.heap ∧ gT K U U.heap ∧ kz K ≤ U.heap.size
def gQc (K : gK) (oc : Option Value) (M : XS) (S : Option MS) : Array Value → State → Outcome → State → Prop := fun _ st o t => (o = .returned oc ∧ RP K M S t.heap) ∧ va_F (gA K) st t
def gMet (K : gK) (y : MethodName) (cc : ByteArray) (nL : Nat) (ret : Option FieldType) (rm : Room) (args : List Value) (M : XS) (S : Option MS) (oc : Option Value) (M' : XS) (S' : Option MS) : Prop :=
  Met (kl K) y (ws_ y cc nL ret) rm (va_Pc args (GSt K M S)) (gQc K oc M' S') rm.cells rm.slots (gA K)
/-- the machine at a method's run, but for heap and frame -/
abbrev gX : Type := Program × Env × Room × State × MethodId × Array Value × List Frame × Method × Code × (State → Prop)
def xs (X : gX) : State := X.2.2.2.1
def xm (X : gX) : MethodId := X.2.2.2.2.1
def gW (K : gK) (X : gX) (H : Heap) (locs : List Loc) (cs sl : Nat) (g : JFrame) : Prop := W X.1 (kl K) X.2.1 X.2.2.1 X.2.2.2.1 X.2.2.2.2.1 X.2.2.2.2.2.1 X.2.2.2.2.2.2.1 X.2.2.2.2.2.2.2.1 X.2.2.2.2.2.2.2.2.1 H locs cs sl X.2.2.2.2.2.2.2.2.2 g
/-- the judgement: from here, with this memory, these locals, this stack, the run comes to its end -/
def GG (K : gK) (X : gX) (nL cs sl : Nat) (M : XS) (S : Option MS) (pc : Nat) (lv : List (Nat × Value)) (st : List Value) : Prop :=
  ∀ (H : Heap) (locs : List Loc) (ls : Array Slot), RP K M S H → va_S (gA K) X.2.2.2.1.heap H locs → lv_has ls nL lv → gW K X H locs cs sl (F0 X.2.2.2.2.1 pc ls st)
/-- what is known all through a method's run -/
def gC (K : gK) (X : gX) (cc : ByteArray) (nL : Nat) (y : MethodName) (ret : Option FieldType) (rm : Room) : Prop :=
  X.1.tables.exec = Jvm.exec ∧ X.2.2.2.2.2.2.2.2.1.code = cc ∧ X.2.2.2.2.2.2.2.2.1.maxLocals = nL ∧ X.2.2.2.1.vm.findClass y.cls = some X.2.2.2.2.1.cls ∧ (∀ w ∈ lw_all, w.before X.2.2.2.2.2.1 X.2.2.2.1 = true) ∧ X.2.2.2.2.2.2.2.1.locks = false ∧ X.2.2.2.2.2.2.2.1.sig.returnType = ret ∧ X.2.2.1 = rm ∧ gT K X.2.2.2.1 X.2.2.2.1.heap ∧ kz K ≤ X.2.2.2.1.heap.size ∧ X.2.2.2.2.2.2.2.1.name = y.name
def gE (K : gK) (X : gX) (oc : Option Value) (M : XS) (S : Option MS) (cs sl : Nat) : Prop := X.2.2.2.2.2.2.2.2.2 = MQ X.2.2.2.2.2.2.1 (gQc K oc M S) X.2.2.2.2.2.1 X.2.2.2.1 cs sl (gA K)
theorem gMet.of {K : gK} {y : MethodName} {cc : ByteArray} {nL : Nat} {ret : Option FieldType} {rm : Room} {args : List Value} {M M' : XS} {S S' : Option MS} {oc : Option Value}
    (hy : plainName y.cls = true) (hle : (lg_sl args).length ≤ nL) (h : ∀ X : gX, gC K X cc nL y ret rm → gE K X oc M' S' rm.cells rm.slots → GG K X nL 0 0 M S 0 (lv_args 0 args) []) : gMet K y cc nL ret rm args M S oc M' S' := by
  refine Met.ofW (cc := cc) (maxL := nL) (ret := ret) hy rfl ?_
  intro p e s m args' below meth c s₁ B hml hv
  obtain ⟨rfl, hP, hT, hz⟩ := hv
  have hts := atoms_spec (ws := ws_ y cc nL ret) B.pre
  have hts : ∀ w ∈ lw_all, w.before _ s = true := fun w h => hts w (List.mem_cons_of_mem _ h)
  have hl := lv_entry args (n := nL) hle
  rw [lg_entry_eq]
  exact h (p, e, _, s, m, args.toArray, below, meth, c, MQ below (gQc K oc M' S') args.toArray s rm.cells rm.slots (gA K)) ⟨B.exec, B.bytes, hml, findClass_of_methodNamed B.named, hts, B.notSynchronized, B.returns, rfl, hT, hz, (name_of_methodNamed B.named B.method).1⟩ rfl s.heap [] _ hP va_S.rf hl
section GR
variable {K : gK} {X : gX} {cc : ByteArray} {nL cs sl : Nat} {y0 : MethodName} {ret : Option FieldType} {rm0 : Room} {M : XS} {S : Option MS} {pc : Nat} {lv : List (Nat × Value)} {rest : List Value}
theorem GG.sub (ks : List Nat) {lv' : List (Nat × Value)} (h : lv_pick lv ks = lv') (k : GG K X nL cs sl M S pc lv' rest) : GG K X nL cs sl M S pc lv rest := fun H locs ls h1 h2 h3 => k H locs ls h1 h2 (lv_sub h3 ks h)
theorem GG.widen {cs' sl' : Nat} (h1 : cs ≤ cs') (h2 : sl ≤ sl') (k : GG K X nL cs' sl' M S pc lv rest) : GG K X nL cs sl M S pc lv rest := fun H locs ls a1 a2 a3 => W.widen h1 h2 (k H locs ls a1 a2 a3)
theorem GG.iconst (C : gC K X cc nL y0 ret rm0) {n : Int} {v : Int32} (hd : decode cc pc = .ok (.iconst n, 1)) (hv : Int32.ofInt n = v) (k : GG K X nL cs sl M S (pc + 1) lv (.int v :: rest)) : GG K X nL cs sl M S pc lv rest := fun H locs ls h1 h2 h3 => lv_iconst C.1 C.2.1 hd hv (k H locs ls h1 h2 h3)
theorem GG.bipush (C : gC K X cc nL y0 ret rm0) {n : Int} {v : Int32} (hd : decode cc pc = .ok (.bipush n, 2)) (hv : (Int8.ofInt n).toInt32 = v) (k : GG K X nL cs sl M S (pc + 2) lv (.int v :: rest)) : GG K X nL cs sl M S pc lv rest := fun H locs ls h1 h2 h3 => lv_bipush C.1 C.2.1 hd hv (k H locs ls h1 h2 h3)
theorem GG.sipush (C : gC K X cc nL y0 ret rm0) {n : Int} {v : Int32} (hd : decode cc pc = .ok (.sipush n, 3)) (hv : (Int16.ofInt n).toInt32 = v) (k : GG K X nL cs sl M S (pc + 3) lv (.int v :: rest)) : GG K X nL cs sl M S pc lv rest := fun H locs ls h1 h2 h3 => lv_sipush C.1 C.2.1 hd hv (k H locs ls h1 h2 h3)
theorem GG.lconst (C : gC K X cc nL y0 ret rm0) {n : Fin 2} {v : Int64} (hd : decode cc pc = .ok (.lconst n, 1)) (hv : Int64.ofNat (n : Nat) = v) (k : GG K X nL cs sl M S (pc + 1) lv (.long v :: rest)) : GG K X nL cs sl M S pc lv rest := fun H locs ls h1 h2 h3 => lv_lconst C.1 C.2.1 hd hv (k H locs ls h1 h2 h3)
theorem GG.iload_n (C : gC K X cc nL y0 ret rm0) {i : Fin 4} {x : Int32} (hd : decode cc pc = .ok (.iload_n i, 1)) (j : Nat) (hl : lv[j]? = some ((i : Nat), .int x)) (k : GG K X nL cs sl M S (pc + 1) lv (.int x :: rest)) : GG K X nL cs sl M S pc lv rest := fun H locs ls h1 h2 h3 => lv_iload_n C.1 C.2.1 hd rfl (lv_at h3 j hl) (k H locs ls h1 h2 h3)
theorem GG.iload (C : gC K X cc nL y0 ret rm0) {i : Nat} {x : Int32} (hd : decode cc pc = .ok (.iload i, 2)) (j : Nat) (hl : lv[j]? = some (i, .int x)) (k : GG K X nL cs sl M S (pc + 2) lv (.int x :: rest)) : GG K X nL cs sl M S pc lv rest := fun H locs ls h1 h2 h3 => lv_iload C.1 C.2.1 hd (lv_at h3 j hl) (k H locs ls h1 h2 h3)
theorem GG.lload_n (C : gC K X cc nL y0 ret rm0) {i : Fin 4} {x : Int64} (hd : decode cc pc = .ok (.lload_n i, 1)) (j : Nat) (hl : lv[j]? = some ((i : Nat), .long x)) (k : GG K X nL cs sl M S (pc + 1) lv (.long x :: rest)) : GG K X nL cs sl M S pc lv rest := fun H locs ls h1 h2 h3 => lv_lload_n C.1 C.2.1 hd rfl (lv_at h3 j hl) (k H locs ls h1 h2 h3)
theorem GG.lload (C : gC K X cc nL y0 ret rm0) {i : Nat} {x : Int64} (hd : decode cc pc = .ok (.lload i, 2)) (j : Nat) (hl : lv[j]? = some (i, .long x)) (k : GG K X nL cs sl M S (pc + 2) lv (.long x :: rest)) : GG K X nL cs sl M S pc lv rest := fun H locs ls h1 h2 h3 => lv_lload C.1 C.2.1 hd (lv_at h3 j hl) (k H locs ls h1 h2 h3)
theorem GG.aload_n (C : gC K X cc nL y0 ret rm0) {i : Fin 4} {x : Nat} (hd : decode cc pc = .ok (.aload_n i, 1)) (j : Nat) (hl : lv[j]? = some ((i : Nat), .ref x)) (k : GG K X nL cs sl M S (pc + 1) lv (.ref x :: rest)) : GG K X nL cs sl M S pc lv rest := fun H locs ls h1 h2 h3 => lv_aload_n C.1 C.2.1 hd rfl (lv_at h3 j hl) (k H locs ls h1 h2 h3)
theorem GG.aload (C : gC K X cc nL y0 ret rm0) {i : Nat} {x : Nat} (hd : decode cc pc = .ok (.aload i, 2)) (j : Nat) (hl : lv[j]? = some (i, .ref x)) (k : GG K X nL cs sl M S (pc + 2) lv (.ref x :: rest)) : GG K X nL cs sl M S pc lv rest := fun H locs ls h1 h2 h3 => lv_aload C.1 C.2.1 hd (lv_at h3 j hl) (k H locs ls h1 h2 h3)
theorem GG.istore_n (C : gC K X cc nL y0 ret rm0) {i : Fin 4} {x : Int32} {lv' : List (Nat × Value)} (hd : decode cc pc = .ok (.istore_n i, 1)) (hn : (i : Nat) < nL) (hl : ((i : Nat), Value.int x) :: lv.filter (fun q => !(q.1 == (i : Nat)) && !(q.1 + 1 == (i : Nat) && q.2.category == 2)) = lv') (k : GG K X nL cs sl M S (pc + 1) lv' rest) : GG K X nL cs sl M S pc lv (.int x :: rest) := fun H locs ls h1 h2 h3 => lv_istore_n C.1 C.2.1 hd rfl h3 hn hl (fun ls' h3' => k H locs ls' h1 h2 h3')
theorem GG.istore (C : gC K X cc nL y0 ret rm0) {i : Nat} {x : Int32} {lv' : List (Nat × Value)} (hd : decode cc pc = .ok (.istore i, 2)) (hn : i < nL) (hl : (i, Value.int x) :: lv.filter (fun q => !(q.1 == i) && !(q.1 + 1 == i && q.2.category == 2)) = lv') (k : GG K X nL cs sl M S (pc + 2) lv' rest) : GG K X nL cs sl M S pc lv (.int x :: rest) := fun H locs ls h1 h2 h3 => lv_istore C.1 C.2.1 hd h3 hn hl (fun ls' h3' => k H locs ls' h1 h2 h3')
theorem GG.lstore_n (C : gC K X cc nL y0 ret rm0) {i : Fin 4} {x : Int64} {lv' : List (Nat × Value)} (hd : decode cc pc = .ok (.lstore_n i, 1)) (hn : (i : Nat) + 1 < nL) (hl : ((i : Nat), Value.long x) :: lv.filter (fun q => !(q.1 == (i : Nat)) && (!(q.1 == (i : Nat) + 1) && !(q.1 + 1 == (i : Nat) && q.2.category == 2))) = lv') (k : GG K X nL cs sl M S (pc + 1) lv' rest) : GG K X nL cs sl M S pc lv (.long x :: rest) := fun H locs ls h1 h2 h3 => lv_lstore_n C.1 C.2.1 hd rfl h3 hn hl (fun ls' h3' => k H locs ls' h1 h2 h3')
theorem GG.lstore (C : gC K X cc nL y0 ret rm0) {i : Nat} {x : Int64} {lv' : List (Nat × Value)} (hd : decode cc pc = .ok (.lstore i, 2)) (hn : i + 1 < nL) (hl : (i, Value.long x) :: lv.filter (fun q => !(q.1 == i) && (!(q.1 == i + 1) && !(q.1 + 1 == i && q.2.category == 2))) = lv') (k : GG K X nL cs sl M S (pc + 2) lv' rest) : GG K X nL cs sl M S pc lv (.long x :: rest) := fun H locs ls h1 h2 h3 => lv_lstore C.1 C.2.1 hd h3 hn hl (fun ls' h3' => k H locs ls' h1 h2 h3')
theorem GG.astore_n (C : gC K X cc nL y0 ret rm0) {i : Fin 4} {x : Nat} {lv' : List (Nat × Value)} (hd : decode cc pc = .ok (.astore_n i, 1)) (hn : (i : Nat) < nL) (hl : ((i : Nat), Value.ref x) :: lv.filter (fun q => !(q.1 == (i : Nat)) && !(q.1 + 1 == (i : Nat) && q.2.category == 2)) = lv') (k : GG K X nL cs sl M S (pc + 1) lv' rest) : GG K X nL cs sl M S pc lv (.ref x :: rest) := fun H locs ls h1 h2 h3 => lv_astore_n C.1 C.2.1 hd rfl h3 hn hl (fun ls' h3' => k H locs ls' h1 h2 h3')
theorem GG.astore (C : gC K X cc nL y0 ret rm0) {i : Nat} {x : Nat} {lv' : List (Nat × Value)} (hd : decode cc pc = .ok (.astore i, 2)) (hn : i < nL) (hl : (i, Value.ref x) :: lv.filter (fun q => !(q.1 == i) && !(q.1 + 1 == i && q.2.category == 2)) = lv') (k : GG K X nL cs sl M S (pc + 2) lv' rest) : GG K X nL cs sl M S pc lv (.ref x :: rest) := fun H locs ls h1 h2 h3 => lv_astore C.1 C.2.1 hd h3 hn hl (fun ls' h3' => k H locs ls' h1 h2 h3')
theorem GG.iinc (C : gC K X cc nL y0 ret rm0) {i : Nat} {n : Int} {x v : Int32} {lv' : List (Nat × Value)} (hd : decode cc pc = .ok (.iinc i n, 3)) (j : Nat) (hj : lv[j]? = some (i, .int x)) (hv : x + Int32.ofInt n = v) (hn : i < nL) (hl : (i, Value.int v) :: lv.filter (fun q => !(q.1 == i) && !(q.1 + 1 == i && q.2.category == 2)) = lv') (k : GG K X nL cs sl M S (pc + 3) lv' rest) : GG K X nL cs sl M S pc lv rest := fun H locs ls h1 h2 h3 => lv_iinc C.1 C.2.1 hd h3 hj hv hn hl (fun ls' h3' => k H locs ls' h1 h2 h3')
theorem GG.iadd (C : gC K X cc nL y0 ret rm0) {x y : Int32} (hd : decode cc pc = .ok (.iadd, 1)) (k : GG K X nL cs sl M S (pc + 1) lv (.int (x + y) :: rest)) : GG K X nL cs sl M S pc lv (.int y :: .int x :: rest) := fun H locs ls h1 h2 h3 => lv_iadd C.1 C.2.1 hd (k H locs ls h1 h2 h3)
theorem GG.isub (C : gC K X cc nL y0 ret rm0) {x y : Int32} (hd : decode cc pc = .ok (.isub, 1)) (k : GG K X nL cs sl M S (pc + 1) lv (.int (x - y) :: rest)) : GG K X nL cs sl M S pc lv (.int y :: .int x :: rest) := fun H locs ls h1 h2 h3 => lv_isub C.1 C.2.1 hd (k H locs ls h1 h2 h3)
theorem GG.imul (C : gC K X cc nL y0 ret rm0) {x y : Int32} (hd : decode cc pc = .ok (.imul, 1)) (k : GG K X nL cs sl M S (pc + 1) lv (.int (x * y) :: rest)) : GG K X nL cs sl M S pc lv (.int y :: .int x :: rest) := fun H locs ls h1 h2 h3 => lv_imul C.1 C.2.1 hd (k H locs ls h1 h2 h3)
theorem GG.iand (C : gC K X cc nL y0 ret rm0) {x y : Int32} (hd : decode cc pc = .ok (.iand, 1)) (k : GG K X nL cs sl M S (pc + 1) lv (.int (x &&& y) :: rest)) : GG K X nL cs sl M S pc lv (.int y :: .int x :: rest) := fun H locs ls h1 h2 h3 => lv_iand C.1 C.2.1 hd (k H locs ls h1 h2 h3)
theorem GG.ior (C : gC K X cc nL y0 ret rm0) {x y : Int32} (hd : decode cc pc = .ok (.ior, 1)) (k : GG K X nL cs sl M S (pc + 1) lv (.int (x ||| y) :: rest)) : GG K X nL cs sl M S pc lv (.int y :: .int x :: rest) := fun H locs ls h1 h2 h3 => lv_ior C.1 C.2.1 hd (k H locs ls h1 h2 h3)
theorem GG.ixor (C : gC K X cc nL y0 ret rm0) {x y : Int32} (hd : decode cc pc = .ok (.ixor, 1)) (k : GG K X nL cs sl M S (pc + 1) lv (.int (x ^^^ y) :: rest)) : GG K X nL cs sl M S pc lv (.int y :: .int x :: rest) := fun H locs ls h1 h2 h3 => lv_ixor C.1 C.2.1 hd (k H locs ls h1 h2 h3)
theorem GG.idiv (C : gC K X cc nL y0 ret rm0) {x y : Int32} (hd : decode cc pc = .ok (.idiv, 1)) (hne : ¬ y = 0) (k : GG K X nL cs sl M S (pc + 1) lv (.int (x / y) :: rest)) : GG K X nL cs sl M S pc lv (.int y :: .int x :: rest) := fun H locs ls h1 h2 h3 => lv_idiv C.1 C.2.1 hd hne (k H locs ls h1 h2 h3)
theorem GG.irem (C : gC K X cc nL y0 ret rm0) {x y : Int32} (hd : decode cc pc = .ok (.irem, 1)) (hne : ¬ y = 0) (k : GG K X nL cs sl M S (pc + 1) lv (.int (x - x / y * y) :: rest)) : GG K X nL cs sl M S pc lv (.int y :: .int x :: rest) := fun H locs ls h1 h2 h3 => lv_irem C.1 C.2.1 hd hne (k H locs ls h1 h2 h3)
theorem GG.ladd (C : gC K X cc nL y0 ret rm0) {x y : Int64} (hd : decode cc pc = .ok (.ladd, 1)) (k : GG K X nL cs sl M S (pc + 1) lv (.long (x + y) :: rest)) : GG K X nL cs sl M S pc lv (.long y :: .long x :: rest) := fun H locs ls h1 h2 h3 => lv_ladd C.1 C.2.1 hd (k H locs ls h1 h2 h3)
theorem GG.lsub (C : gC K X cc nL y0 ret rm0) {x y : Int64} (hd : decode cc pc = .ok (.lsub, 1)) (k : GG K X nL cs sl M S (pc + 1) lv (.long (x - y) :: rest)) : GG K X nL cs sl M S pc lv (.long y :: .long x :: rest) := fun H locs ls h1 h2 h3 => lv_lsub C.1 C.2.1 hd (k H locs ls h1 h2 h3)
theorem GG.lmul (C : gC K X cc nL y0 ret rm0) {x y : Int64} (hd : decode cc pc = .ok (.lmul, 1)) (k : GG K X nL cs sl M S (pc + 1) lv (.long (x * y) :: rest)) : GG K X nL cs sl M S pc lv (.long y :: .long x :: rest) := fun H locs ls h1 h2 h3 => lv_lmul C.1 C.2.1 hd (k H locs ls h1 h2 h3)
theorem GG.land (C : gC K X cc nL y0 ret rm0) {x y : Int64} (hd : decode cc pc = .ok (.land, 1)) (k : GG K X nL cs sl M S (pc + 1) lv (.long (x &&& y) :: rest)) : GG K X nL cs sl M S pc lv (.long y :: .long x :: rest) := fun H locs ls h1 h2 h3 => lv_land C.1 C.2.1 hd (k H locs ls h1 h2 h3)
theorem GG.lor (C : gC K X cc nL y0 ret rm0) {x y : Int64} (hd : decode cc pc = .ok (.lor, 1)) (k : GG K X nL cs sl M S (pc + 1) lv (.long (x ||| y) :: rest)) : GG K X nL cs sl M S pc lv (.long y :: .long x :: rest) := fun H locs ls h1 h2 h3 => lv_lor C.1 C.2.1 hd (k H locs ls h1 h2 h3)
theorem GG.ldiv (C : gC K X cc nL y0 ret rm0) {x y : Int64} (hd : decode cc pc = .ok (.ldiv, 1)) (hne : ¬ y = 0) (k : GG K X nL cs sl M S (pc + 1) lv (.long (x / y) :: rest)) : GG K X nL cs sl M S pc lv (.long y :: .long x :: rest) := fun H locs ls h1 h2 h3 => lv_ldiv C.1 C.2.1 hd hne (k H locs ls h1 h2 h3)
theorem GG.lrem (C : gC K X cc nL y0 ret rm0) {x y : Int64} (hd : decode cc pc = .ok (.lrem, 1)) (hne : ¬ y = 0) (k : GG K X nL cs sl M S (pc + 1) lv (.long (x - x / y * y) :: rest)) : GG K X nL cs sl M S pc lv (.long y :: .long x :: rest) := fun H locs ls h1 h2 h3 => lv_lrem C.1 C.2.1 hd hne (k H locs ls h1 h2 h3)
theorem GG.lneg (C : gC K X cc nL y0 ret rm0) {x : Int64} (hd : decode cc pc = .ok (.lneg, 1)) (k : GG K X nL cs sl M S (pc + 1) lv (.long (-x) :: rest)) : GG K X nL cs sl M S pc lv (.long x :: rest) := fun H locs ls h1 h2 h3 => lv_lneg C.1 C.2.1 hd (k H locs ls h1 h2 h3)
theorem GG.ishl (C : gC K X cc nL y0 ret rm0) {x y : Int32} (hd : decode cc pc = .ok (.ishl, 1)) (k : GG K X nL cs sl M S (pc + 1) lv (.int (x <<< (y &&& 31)) :: rest)) : GG K X nL cs sl M S pc lv (.int y :: .int x :: rest) := fun H locs ls h1 h2 h3 => lv_ishl C.1 C.2.1 hd (k H locs ls h1 h2 h3)
theorem GG.ishr (C : gC K X cc nL y0 ret rm0) {x y : Int32} (hd : decode cc pc = .ok (.ishr, 1)) (k : GG K X nL cs sl M S (pc + 1) lv (.int (x >>> (y &&& 31)) :: rest)) : GG K X nL cs sl M S pc lv (.int y :: .int x :: rest) := fun H locs ls h1 h2 h3 => lv_ishr C.1 C.2.1 hd (k H locs ls h1 h2 h3)
theorem GG.iushr (C : gC K X cc nL y0 ret rm0) {x y : Int32} (hd : decode cc pc = .ok (.iushr, 1)) (k : GG K X nL cs sl M S (pc + 1) lv (.int ((x.toUInt32 >>> (y.toUInt32 &&& Int32.toUInt32 31)).toInt32) :: rest)) : GG K X nL cs sl M S pc lv (.int y :: .int x :: rest) := fun H locs ls h1 h2 h3 => lv_iushr C.1 C.2.1 hd rfl (k H locs ls h1 h2 h3)
theorem GG.lshl (C : gC K X cc nL y0 ret rm0) {x : Int64} {y : Int32} (hd : decode cc pc = .ok (.lshl, 1)) (k : GG K X nL cs sl M S (pc + 1) lv (.long (x <<< (y.toInt64 &&& 63)) :: rest)) : GG K X nL cs sl M S pc lv (.int y :: .long x :: rest) := fun H locs ls h1 h2 h3 => lv_lshl C.1 C.2.1 hd rfl (k H locs ls h1 h2 h3)
theorem GG.i2l (C : gC K X cc nL y0 ret rm0) {x : Int32} (hd : decode cc pc = .ok (.i2l, 1)) (k : GG K X nL cs sl M S (pc + 1) lv (.long (x.toInt64) :: rest)) : GG K X nL cs sl M S pc lv (.int x :: rest) := fun H locs ls h1 h2 h3 => lv_i2l C.1 C.2.1 hd rfl (k H locs ls h1 h2 h3)
theorem GG.l2i (C : gC K X cc nL y0 ret rm0) {x : Int64} (hd : decode cc pc = .ok (.l2i, 1)) (k : GG K X nL cs sl M S (pc + 1) lv (.int (x.toInt32) :: rest)) : GG K X nL cs sl M S pc lv (.long x :: rest) := fun H locs ls h1 h2 h3 => lv_l2i C.1 C.2.1 hd rfl (k H locs ls h1 h2 h3)
theorem GG.i2b (C : gC K X cc nL y0 ret rm0) {x : Int32} (hd : decode cc pc = .ok (.i2b, 1)) (k : GG K X nL cs sl M S (pc + 1) lv (.int (x.toInt8.toInt32) :: rest)) : GG K X nL cs sl M S pc lv (.int x :: rest) := fun H locs ls h1 h2 h3 => lv_i2b C.1 C.2.1 hd rfl (k H locs ls h1 h2 h3)
theorem GG.i2s (C : gC K X cc nL y0 ret rm0) {x : Int32} (hd : decode cc pc = .ok (.i2s, 1)) (k : GG K X nL cs sl M S (pc + 1) lv (.int (x.toInt16.toInt32) :: rest)) : GG K X nL cs sl M S pc lv (.int x :: rest) := fun H locs ls h1 h2 h3 => lv_i2s C.1 C.2.1 hd rfl (k H locs ls h1 h2 h3)
theorem GG.lcmp (C : gC K X cc nL y0 ret rm0) {x y : Int64} (hd : decode cc pc = .ok (.lcmp, 1)) (k : GG K X nL cs sl M S (pc + 1) lv (.int (lg_cmp x y) :: rest)) : GG K X nL cs sl M S pc lv (.long y :: .long x :: rest) := fun H locs ls h1 h2 h3 => W.lcmp C.1 C.2.1 hd (k H locs ls h1 h2 h3)
theorem GG.dup (C : gC K X cc nL y0 ret rm0) {v : Value} (hd : decode cc pc = .ok (.dup, 1)) (hv : v.category = 1) (k : GG K X nL cs sl M S (pc + 1) lv (v :: v :: rest)) : GG K X nL cs sl M S pc lv (v :: rest) := fun H locs ls h1 h2 h3 => lv_dup C.1 C.2.1 hd hv (k H locs ls h1 h2 h3)
theorem GG.pop (C : gC K X cc nL y0 ret rm0) {v : Value} (hd : decode cc pc = .ok (.pop, 1)) (hv : v.category = 1) (k : GG K X nL cs sl M S (pc + 1) lv rest) : GG K X nL cs sl M S pc lv (v :: rest) := fun H locs ls h1 h2 h3 => lv_pop C.1 C.2.1 hd hv (k H locs ls h1 h2 h3)
theorem GG.dup2 (C : gC K X cc nL y0 ret rm0) {v w : Value} (hd : decode cc pc = .ok (.dup2, 1)) (hv : v.category = 1) (hw : w.category = 1) (k : GG K X nL cs sl M S (pc + 1) lv (v :: w :: v :: w :: rest)) : GG K X nL cs sl M S pc lv (v :: w :: rest) := fun H locs ls h1 h2 h3 => lv_dup2_11 C.1 C.2.1 hd hv hw (k H locs ls h1 h2 h3)
theorem GG.goto (C : gC K X cc nL y0 ret rm0) {off : Int} {tgt : Nat} (hd : decode cc pc = .ok (.goto off, 3)) (ht : (pc : Int) + off = (tgt : Int)) (k : GG K X nL cs sl M S tgt lv rest) : GG K X nL cs sl M S pc lv rest := fun H locs ls h1 h2 h3 => lv_goto C.1 C.2.1 hd ht (k H locs ls h1 h2 h3)
theorem GG.ldc (C : gC K X cc nL y0 ret rm0) {i : Nat} {v : Int32} (hw : Cond.constant y0.cls i v ∈ lw_all) (hd : decode cc pc = .ok (.ldc i, 2)) (k : GG K X nL cs sl M S (pc + 2) lv (.int v :: rest)) : GG K X nL cs sl M S pc lv rest := fun H locs ls h1 h2 h3 => lv_ldc C.1 C.2.1 C.2.2.2.1 (C.2.2.2.2.1 _ hw) hd (k H locs ls h1 h2 h3)
theorem GG.ldcw (C : gC K X cc nL y0 ret rm0) {i : Nat} {v : Int32} (hw : Cond.constant y0.cls i v ∈ lw_all) (hd : decode cc pc = .ok (.ldc_w i, 3)) (k : GG K X nL cs sl M S (pc + 3) lv (.int v :: rest)) : GG K X nL cs sl M S pc lv rest := fun H locs ls h1 h2 h3 => lv_ldcw C.1 C.2.1 C.2.2.2.1 (C.2.2.2.2.1 _ hw) hd (k H locs ls h1 h2 h3)
theorem GG.ldc2 (C : gC K X cc nL y0 ret rm0) {i : Nat} {v : Int64} (hw : Cond.constantLong y0.cls i v ∈ lw_all) (hd : decode cc pc = .ok (.ldc2_w i, 3)) (k : GG K X nL cs sl M S (pc + 3) lv (.long v :: rest)) : GG K X nL cs sl M S pc lv rest := fun H locs ls h1 h2 h3 => lv_ldc2 C.1 C.2.1 C.2.2.2.1 (C.2.2.2.2.1 _ hw) hd (k H locs ls h1 h2 h3)
theorem GG.ifnonnull (C : gC K X cc nL y0 ret rm0) {x : Nat} {off : Int} {tgt : Nat} (hd : decode cc pc = .ok (.ifnonnull off, 3)) (ht : (pc : Int) + off = (tgt : Int)) (k : GG K X nL cs sl M S tgt lv rest) : GG K X nL cs sl M S pc lv (.ref x :: rest) := fun H locs ls h1 h2 h3 => lv_ifnonnull C.1 C.2.1 hd ht (k H locs ls h1 h2 h3)
theorem GG.ifnonnullN (C : gC K X cc nL y0 ret rm0) {off : Int} (hd : decode cc pc = .ok (.ifnonnull off, 3)) (k : GG K X nL cs sl M S (pc + 3) lv rest) : GG K X nL cs sl M S pc lv (.null :: rest) := fun H locs ls h1 h2 h3 => lv_ifnonnullN C.1 C.2.1 hd (k H locs ls h1 h2 h3)
theorem GG.ifnull (C : gC K X cc nL y0 ret rm0) {x : Nat} {off : Int} (hd : decode cc pc = .ok (.ifnull off, 3)) (k : GG K X nL cs sl M S (pc + 3) lv rest) : GG K X nL cs sl M S pc lv (.ref x :: rest) := fun H locs ls h1 h2 h3 => lv_ifnull C.1 C.2.1 hd (k H locs ls h1 h2 h3)
theorem GG.ifnullN (C : gC K X cc nL y0 ret rm0) {off : Int} {tgt : Nat} (hd : decode cc pc = .ok (.ifnull off, 3)) (ht : (pc : Int) + off = (tgt : Int)) (k : GG K X nL cs sl M S tgt lv rest) : GG K X nL cs sl M S pc lv (.null :: rest) := fun H locs ls h1 h2 h3 => lv_ifnullN C.1 C.2.1 hd ht (k H locs ls h1 h2 h3)
theorem GG.null (C : gC K X cc nL y0 ret rm0) (hd : decode cc pc = .ok (.aconst_null, 1)) (k : GG K X nL cs sl M S (pc + 1) lv (.null :: rest)) : GG K X nL cs sl M S pc lv rest := fun H locs ls h1 h2 h3 => lv_null C.1 C.2.1 hd (k H locs ls h1 h2 h3)
theorem GG.if_eq (C : gC K X cc nL y0 ret rm0) {x : Int32} {off : Int} {tgt : Nat} (hd : decode cc pc = .ok (.ifCond .eq off, 3)) (ht : (pc : Int) + off = (tgt : Int)) (kt : x = 0 → GG K X nL cs sl M S tgt lv rest) (kf : ¬ x = 0 → GG K X nL cs sl M S (pc + 3) lv rest) : GG K X nL cs sl M S pc lv (.int x :: rest) := fun H locs ls h1 h2 h3 => lv_if_eq C.1 C.2.1 hd ht (fun q => kt q H locs ls h1 h2 h3) (fun q => kf q H locs ls h1 h2 h3)
theorem GG.icmp_eq (C : gC K X cc nL y0 ret rm0) {x y : Int32} {off : Int} {tgt : Nat} (hd : decode cc pc = .ok (.if_icmp .eq off, 3)) (ht : (pc : Int) + off = (tgt : Int)) (kt : x = y → GG K X nL cs sl M S tgt lv rest) (kf : ¬ x = y → GG K X nL cs sl M S (pc + 3) lv rest) : GG K X nL cs sl M S pc lv (.int y :: .int x :: rest) := fun H locs ls h1 h2 h3 => lv_icmp_eq C.1 C.2.1 hd ht (fun q => kt q H locs ls h1 h2 h3) (fun q => kf q H locs ls h1 h2 h3)
theorem GG.if_ne (C : gC K X cc nL y0 ret rm0) {x : Int32} {off : Int} {tgt : Nat} (hd : decode cc pc = .ok (.ifCond .ne off, 3)) (ht : (pc : Int) + off = (tgt : Int)) (kt : ¬ x = 0 → GG K X nL cs sl M S tgt lv rest) (kf : x = 0 → GG K X nL cs sl M S (pc + 3) lv rest) : GG K X nL cs sl M S pc lv (.int x :: rest) := fun H locs ls h1 h2 h3 => lv_if_ne C.1 C.2.1 hd ht (fun q => kt q H locs ls h1 h2 h3) (fun q => kf q H locs ls h1 h2 h3)
theorem GG.icmp_ne (C : gC K X cc nL y0 ret rm0) {x y : Int32} {off : Int} {tgt : Nat} (hd : decode cc pc = .ok (.if_icmp .ne off, 3)) (ht : (pc : Int) + off = (tgt : Int)) (kt : ¬ x = y → GG K X nL cs sl M S tgt lv rest) (kf : x = y → GG K X nL cs sl M S (pc + 3) lv rest) : GG K X nL cs sl M S pc lv (.int y :: .int x :: rest) := fun H locs ls h1 h2 h3 => lv_icmp_ne C.1 C.2.1 hd ht (fun q => kt q H locs ls h1 h2 h3) (fun q => kf q H locs ls h1 h2 h3)
theorem GG.if_lt (C : gC K X cc nL y0 ret rm0) {x : Int32} {off : Int} {tgt : Nat} (hd : decode cc pc = .ok (.ifCond .lt off, 3)) (ht : (pc : Int) + off = (tgt : Int)) (kt : x < 0 → GG K X nL cs sl M S tgt lv rest) (kf : ¬ x < 0 → GG K X nL cs sl M S (pc + 3) lv rest) : GG K X nL cs sl M S pc lv (.int x :: rest) := fun H locs ls h1 h2 h3 => lv_if_lt C.1 C.2.1 hd ht (fun q => kt q H locs ls h1 h2 h3) (fun q => kf q H locs ls h1 h2 h3)
theorem GG.icmp_lt (C : gC K X cc nL y0 ret rm0) {x y : Int32} {off : Int} {tgt : Nat} (hd : decode cc pc = .ok (.if_icmp .lt off, 3)) (ht : (pc : Int) + off = (tgt : Int)) (kt : x < y → GG K X nL cs sl M S tgt lv rest) (kf : ¬ x < y → GG K X nL cs sl M S (pc + 3) lv rest) : GG K X nL cs sl M S pc lv (.int y :: .int x :: rest) := fun H locs ls h1 h2 h3 => lv_icmp_lt C.1 C.2.1 hd ht (fun q => kt q H locs ls h1 h2 h3) (fun q => kf q H locs ls h1 h2 h3)
theorem GG.if_ge (C : gC K X cc nL y0 ret rm0) {x : Int32} {off : Int} {tgt : Nat} (hd : decode cc pc = .ok (.ifCond .ge off, 3)) (ht : (pc : Int) + off = (tgt : Int)) (kt : 0 ≤ x → GG K X nL cs sl M S tgt lv rest) (kf : ¬ 0 ≤ x → GG K X nL cs sl M S (pc + 3) lv rest) : GG K X nL cs sl M S pc lv (.int x :: rest) := fun H locs ls h1 h2 h3 => lv_if_ge C.1 C.2.1 hd ht (fun q => kt q H locs ls h1 h2 h3) (fun q => kf q H locs ls h1 h2 h3)
theorem GG.icmp_ge (C : gC K X cc nL y0 ret rm0) {x y : Int32} {off : Int} {tgt : Nat} (hd : decode cc pc = .ok (.if_icmp .ge off, 3)) (ht : (pc : Int) + off = (tgt : Int)) (kt : y ≤ x → GG K X nL cs sl M S tgt lv rest) (kf : ¬ y ≤ x → GG K X nL cs sl M S (pc + 3) lv rest) : GG K X nL cs sl M S pc lv (.int y :: .int x :: rest) := fun H locs ls h1 h2 h3 => lv_icmp_ge C.1 C.2.1 hd ht (fun q => kt q H locs ls h1 h2 h3) (fun q => kf q H locs ls h1 h2 h3)
theorem GG.if_gt (C : gC K X cc nL y0 ret rm0) {x : Int32} {off : Int} {tgt : Nat} (hd : decode cc pc = .ok (.ifCond .gt off, 3)) (ht : (pc : Int) + off = (tgt : Int)) (kt : 0 < x → GG K X nL cs sl M S tgt lv rest) (kf : ¬ 0 < x → GG K X nL cs sl M S (pc + 3) lv rest) : GG K X nL cs sl M S pc lv (.int x :: rest) := fun H locs ls h1 h2 h3 => lv_if_gt C.1 C.2.1 hd ht (fun q => kt q H locs ls h1 h2 h3) (fun q => kf q H locs ls h1 h2 h3)
theorem GG.icmp_gt (C : gC K X cc nL y0 ret rm0) {x y : Int32} {off : Int} {tgt : Nat} (hd : decode cc pc = .ok (.if_icmp .gt off, 3)) (ht : (pc : Int) + off = (tgt : Int)) (kt : y < x → GG K X nL cs sl M S tgt lv rest) (kf : ¬ y < x → GG K X nL cs sl M S (pc + 3) lv rest) : GG K X nL cs sl M S pc lv (.int y :: .int x :: rest) := fun H locs ls h1 h2 h3 => lv_icmp_gt C.1 C.2.1 hd ht (fun q => kt q H locs ls h1 h2 h3) (fun q => kf q H locs ls h1 h2 h3)
theorem GG.if_le (C : gC K X cc nL y0 ret rm0) {x : Int32} {off : Int} {tgt : Nat} (hd : decode cc pc = .ok (.ifCond .le off, 3)) (ht : (pc : Int) + off = (tgt : Int)) (kt : x ≤ 0 → GG K X nL cs sl M S tgt lv rest) (kf : ¬ x ≤ 0 → GG K X nL cs sl M S (pc + 3) lv rest) : GG K X nL cs sl M S pc lv (.int x :: rest) := fun H locs ls h1 h2 h3 => lv_if_le C.1 C.2.1 hd ht (fun q => kt q H locs ls h1 h2 h3) (fun q => kf q H locs ls h1 h2 h3)
theorem GG.icmp_le (C : gC K X cc nL y0 ret rm0) {x y : Int32} {off : Int} {tgt : Nat} (hd : decode cc pc = .ok (.if_icmp .le off, 3)) (ht : (pc : Int) + off = (tgt : Int)) (kt : x ≤ y → GG K X nL cs sl M S tgt lv rest) (kf : ¬ x ≤ y → GG K X nL cs sl M S (pc + 3) lv rest) : GG K X nL cs sl M S pc lv (.int y :: .int x :: rest) := fun H locs ls h1 h2 h3 => lv_icmp_le C.1 C.2.1 hd ht (fun q => kt q H locs ls h1 h2 h3) (fun q => kf q H locs ls h1 h2 h3)
theorem GG.iret (C : gC K X cc nL y0 (some .int) rm0) {v : Int32} (E : gE K X (some (.int v)) M S cs sl) (hd : decode cc pc = .ok (.ireturn, 1)) : GG K X nL cs sl M S pc lv [.int v] := by
  intro H locs ls h1 h2 h3
  unfold gW; rw [E]
  exact W.iret C.1 C.2.1 C.2.2.2.2.2.2.1 (fun t ht hW => ⟨⟨rfl, by rw [ht]; exact h1⟩, h2.F ht⟩) h2.2.2 hd C.2.2.2.2.2.1
theorem GG.zret (C : gC K X cc nL y0 (some .boolean) rm0) {v : Int32} (hz : v &&& 1 = v) (E : gE K X (some (.int v)) M S cs sl) (hd : decode cc pc = .ok (.ireturn, 1)) : GG K X nL cs sl M S pc lv [.int v] := by
  intro H locs ls h1 h2 h3
  unfold gW; rw [E]
  exact W.zret C.1 C.2.1 C.2.2.2.2.2.2.1 (by show Value.int (v &&& 1) = _; rw [hz]) (fun t ht hW => ⟨⟨rfl, by rw [ht]; exact h1⟩, h2.F ht⟩) h2.2.2 hd C.2.2.2.2.2.1
theorem GG.lret (C : gC K X cc nL y0 (some .long) rm0) {v : Int64} (E : gE K X (some (.long v)) M S cs sl) (hd : decode cc pc = .ok (.lreturn, 1)) : GG K X nL cs sl M S pc lv [.long v] := by
  intro H locs ls h1 h2 h3
  unfold gW; rw [E]
  exact W.lret C.1 C.2.1 C.2.2.2.2.2.2.1 (fun t ht hW => ⟨⟨rfl, by rw [ht]; exact h1⟩, h2.F ht⟩) h2.2.2 hd C.2.2.2.2.2.1
theorem GG.vret (C : gC K X cc nL y0 none rm0) (E : gE K X none M S cs sl) (hd : decode cc pc = .ok (.return_, 1)) : GG K X nL cs sl M S pc lv [] := by
  intro H locs ls h1 h2 h3
  unfold gW; rw [E]
  exact W.vret C.1 C.2.1 C.2.2.2.2.2.2.1 (fun t ht hW => ⟨⟨rfl, by rw [ht]; exact h1⟩, h2.F ht⟩) h2.2.2 hd C.2.2.2.2.2.1
theorem GG.aret {rt : FieldType} (C : gC K X cc nL y0 (some rt) rm0) (hrt : (∃ n, rt = .object n) ∨ ∃ t, rt = .array t) {v : Nat} (E : gE K X (some (.ref v)) M S cs sl) (hd : decode cc pc = .ok (.areturn, 1)) : GG K X nL cs sl M S pc lv [.ref v] := by
  intro H locs ls h1 h2 h3
  unfold gW; rw [E]
  exact W.aret C.1 C.2.1 C.2.2.2.2.2.2.1 hrt (Or.inr ⟨v, rfl⟩) (fun t ht hW => ⟨⟨rfl, by rw [ht]; exact h1⟩, h2.F ht⟩) h2.2.2 hd C.2.2.2.2.2.1
/-! fields of the system's objects -/
theorem gC.kn {ci : Nat} {r : vw_C} (C : gC K X cc nL y0 ret rm0) (hr : gcl[ci]? = some r) : u_Kn X.2.2.2.1 r.1 r.2.1 r.2.2 ((kD K).1 ci) ((kD K).2 ci) := C.2.2.2.2.2.2.2.2.1.1.1 ci r hr
theorem GG.getX (C : gC K X cc nL y0 ret rm0) {a ci k idx : Nat} {r : vw_C} {ref : String} (hc : xc M a = ci + 1) (hr : gcl[ci]? = some r) (hk : k < r.2.2) (hin : ∀ w ∈ u_ws r.1 r.2.1 r.2.2, w ∈ lw_all)
    (hlink : Cond.fieldLink y0.cls idx ref (r.2.1 k).2.1 (r.2.1 k).2.2.1 ∈ lw_all) (hsame : ref = (r.2.1 k).1 ∨ Cond.sameField ref (r.2.1 k).1 (r.2.1 k).2.1 (r.2.1 k).2.2.1 ∈ lw_all)
    (hd : decode cc pc = .ok (.getfield idx, 3)) (kk : GG K X nL cs sl M S (pc + 3) lv (fval K M (fb ci + k) a :: rest)) : GG K X nL cs sl M S pc lv (.ref a :: rest) := by
  intro H locs ls h1 h2 h3
  obtain ⟨cell, q1, q2, q3, q4⟩ := h1.1.1 a ci r hc hr
  obtain ⟨hS, hfc, kC, hkC, hkind⟩ := C.kn hr
  obtain ⟨cf, kf, fi, f, hi, hsl⟩ := hS k hk
  have hi2 : X.2.2.2.1.fieldFound? ref (r.2.1 k).2.1 (r.2.1 k).2.2.1 = some (cf, kf, fi, f) := by
    rcases hsame with e | e
    · rw [e]; exact hi
    · exact u_same (C.2.2.2.2.1 _ e) _ hi
  exact W.getf C.1 C.2.1 C.2.2.2.1 (C.2.2.2.2.1 _ hlink) hi2 (u_facts hfc hkC (u_lays C.2.2.2.2.1 hin hk) hi).1 q1 (by rw [q3]; exact fun h => by cases h) (by rw [hsl]; exact q4 k hk) rfl rfl hd (kk H locs ls h1 h2 h3)
theorem GG.getXN (C : gC K X cc nL y0 ret rm0) {a ci k idx : Nat} {r : vw_C} {ref host : String} (hc : xc M a = ci + 1) (hr : gcl[ci]? = some r) (hk : k < r.2.2) (hin : ∀ w ∈ u_ws r.1 r.2.1 r.2.2, w ∈ lw_all)
    (hlink : Cond.fieldLinkNest y0.cls idx ref (r.2.1 k).2.1 (r.2.1 k).2.2.1 host ∈ lw_tbl) (hsame : ref = (r.2.1 k).1 ∨ Cond.sameField ref (r.2.1 k).1 (r.2.1 k).2.1 (r.2.1 k).2.2.1 ∈ lw_all)
    (hd : decode cc pc = .ok (.getfield idx, 3)) (kk : GG K X nL cs sl M S (pc + 3) lv (fval K M (fb ci + k) a :: rest)) : GG K X nL cs sl M S pc lv (.ref a :: rest) := by
  intro H locs ls h1 h2 h3
  obtain ⟨cell, q1, q2, q3, q4⟩ := h1.1.1 a ci r hc hr
  obtain ⟨hS, hfc, kC, hkC, hkind⟩ := C.kn hr
  obtain ⟨cf, kf, fi, f, hi, hsl⟩ := hS k hk
  have hi2 : X.2.2.2.1.fieldFound? ref (r.2.1 k).2.1 (r.2.1 k).2.2.1 = some (cf, kf, fi, f) := by
    rcases hsame with e | e
    · rw [e]; exact hi
    · exact u_same (C.2.2.2.2.1 _ e) _ hi
  exact va_Wgetf C.1 C.2.1 C.2.2.2.1 (va_Nw.use rfl (C.2.2.2.2.2.2.2.2.1.2.1 _ hlink rfl)) hi2 (u_facts hfc hkC (u_lays C.2.2.2.2.1 hin hk) hi).1 q1 (by rw [q3]; exact fun h => by cases h) (by rw [hsl]; exact q4 k hk) rfl rfl hd (kk H locs ls h1 h2 h3)
end GR
/-- one field of one object set -/
def same1 (K : gK) (M M' : XS) (f a : Nat) (v : Value) : Prop :=
  xc M' = xc M ∧ xn M' = xn M ∧ xz M' = xz M ∧ (∀ t b j : Nat, aval M' t b j = aval M t b j) ∧ (∀ g b : Nat, (g ≠ f ∨ b ≠ a) → fval K M' g b = fval K M g b) ∧ fval K M' f a = v ∧
  ∀ b g : Nat, b ≠ a → xI M' g b = xI M g b ∧ xL M' g b = xL M g b ∧ xR M' g b = xR M g b ∧ xi M' b g = xi M b g ∧ xl M' b g = xl M b g ∧ xr M' b g = xr M b g
theorem aval_eq {M M' : XS} (h1 : xi M' = xi M) (h2 : xl M' = xl M) (h3 : xr M' = xr M) (t b j : Nat) : aval M' t b j = aval M t b j := by
  unfold aval; rw [h1, h2, h3]
theorem same1_I {K : gK} {M : XS} {f a : Nat} {x : Int32} (hf : fkd f = 0) : same1 K M (sI M f a x) f a (.int x) := by
  refine ⟨rfl, rfl, rfl, aval_eq rfl rfl rfl, ?_, ?_, ?_⟩
  · intro g b h
    show fval K (sI M f a x) g b = fval K M g b
    have e : xI (sI M f a x) g b = xI M g b := by
      show up2 M.1 f a x g b = M.1 g b
      unfold up2
      rw [if_neg (by rintro ⟨q1, q2⟩; rcases h with h | h; exact h q1; exact h q2)]
    unfold fval; rw [e]; rfl
  · unfold fval; rw [hf]
    show Value.int (up2 M.1 f a x f a) = _
    simp [up2]
  · intro b g h
    refine ⟨?_, rfl, rfl, rfl, rfl, rfl⟩
    show up2 M.1 f a x g b = M.1 g b
    unfold up2
    rw [if_neg (by rintro ⟨_, q2⟩; exact h q2)]
theorem same1_L {K : gK} {M : XS} {f a : Nat} {x : Int64} (hf : fkd f = 1) : same1 K M (sL M f a x) f a (.long x) := by
  refine ⟨rfl, rfl, rfl, aval_eq rfl rfl rfl, ?_, ?_, ?_⟩
  · intro g b h
    have e : xL (sL M f a x) g b = xL M g b := by
      show up2 M.2.1 f a x g b = M.2.1 g b
      unfold up2
      rw [if_neg (by rintro ⟨q1, q2⟩; rcases h with h | h; exact h q1; exact h q2)]
    unfold fval; rw [e]; rfl
  · unfold fval; rw [hf]
    show Value.long (up2 M.2.1 f a x f a) = _
    simp [up2]
  · intro b g h
    refine ⟨rfl, ?_, rfl, rfl, rfl, rfl⟩
    show up2 M.2.1 f a x g b = M.2.1 g b
    unfold up2
    rw [if_neg (by rintro ⟨_, q2⟩; exact h q2)]
theorem same1_R {K : gK} {M : XS} {f a : Nat} {x : Option Nat} {v : Value} (hv : (fkd f = 2 ∧ v = va_rf x) ∨ (fkd f = 3 ∧ v = va_rf (x.map (kS K)))) : same1 K M (sR M f a x) f a v := by
  refine ⟨rfl, rfl, rfl, aval_eq rfl rfl rfl, ?_, ?_, ?_⟩
  · intro g b h
    have e : xR (sR M f a x) g b = xR M g b := by
      show up2 M.2.2.1 f a x g b = M.2.2.1 g b
      unfold up2
      rw [if_neg (by rintro ⟨q1, q2⟩; rcases h with h | h; exact h q1; exact h q2)]
    unfold fval; rw [e]; rfl
  · have e : xR (sR M f a x) f a = x := by
      show up2 M.2.2.1 f a x f a = x
      simp [up2]
    rcases hv with ⟨hf, rfl⟩ | ⟨hf, rfl⟩
    · unfold fval; rw [hf]
      show va_rf (xR (sR M f a x) f a) = _
      rw [e]
    · unfold fval; rw [hf]
      show va_rf ((xR (sR M f a x) f a).map (kS K)) = _
      rw [e]
  · intro b g h
    refine ⟨rfl, rfl, ?_, rfl, rfl, rfl⟩
    show up2 M.2.2.1 f a x g b = M.2.2.1 g b
    unfold up2
    rw [if_neg (by rintro ⟨_, q2⟩; exact h q2)]
theorem RX.lt {K : gK} {M : XS} {H : Heap} (h : RX K M H) {a : Nat} (ha : xc M a ≠ 0) : a < xz M := Nat.not_le.mp fun q => ha (h.2.2.2.2 a q).1
theorem gcl_lt {ci : Nat} {r : vw_C} (h : gcl[ci]? = some r) : ci < 12 := (List.getElem?_eq_some_iff.mp h).1
theorem RX.put {K : gK} {M M' : XS} {H H1 : Heap} {a ci k : Nat} {r : vw_C} {v : Value} {cell : Cell} (h : RX K M H) (hc : xc M a = ci + 1) (hr : gcl[ci]? = some r) (hk : k < r.2.2) (hs : same1 K M M' (fb ci + k) a v)
    (hap : ∀ x y, x < r.2.2 → y < r.2.2 → x ≠ y → ((kD K).2 ci) x ≠ ((kD K).2 ci) y) (q1 : H[a]? = some cell) (q2 : cell.cls = (kD K).1 ci) (q3 : cell.vm = .none) (q4 : ∀ j, j < r.2.2 → cell.slots[(kD K).2 ci j]? = some (fval K M (fb ci + j) a))
    (e1 : H1[a]? = some (cell.setSlot ((kD K).2 ci k) v)) (e2 : H1.size = H.size) (e3 : ∀ q : Nat, q ≠ a → H1[q]? = H[q]?) : RX K M' H1 := by
  obtain ⟨s1, s2, s3, s4, s5, s6, s7⟩ := hs
  refine ⟨?_, ?_, ?_, ?_, ?_⟩
  · intro b ci' r' hc' hr'
    rw [s1] at hc'
    by_cases hb : b = a
    · subst hb
      have : ci' = ci := by omega
      subst this
      have : r' = r := Option.some.inj (hr'.symm.trans hr)
      subst this
      refine ⟨_, e1, q2, q3, fun j hj => ?_⟩
      have hz := t_set (V := fun j => fval K M (fb ci' + j) b) q4 hap hk v j hj
      rw [hz]
      by_cases hjk : j = k
      · subst hjk
        simp [updV, s6]
      · simp only [updV, if_neg hjk]
        rw [s5 _ _ (Or.inl (by omega))]
    · have hz := (h.1 b ci' r' hc' hr').kept (e3 b hb)
      exact hz.to (fun j _ => (s5 _ _ (Or.inr hb)).symm)
  · intro b t hc' ht
    rw [s1] at hc'
    have hb : b ≠ a := by
      rintro rfl
      have := gcl_lt hr
      omega
    rw [e3 b hb, h.2.1 b t hc' ht, s2]
    congr 2
    funext j
    exact (s4 t b j).symm
  · intro b hb
    rw [s1] at hb
    exact h.2.2.1 b hb
  · rw [s3, e2]; exact h.2.2.2.1
  · intro b hb
    rw [s3] at hb
    have ha := h.lt (a := a) (by omega)
    have hne : b ≠ a := by omega
    obtain ⟨z1, z2⟩ := h.2.2.2.2 b hb
    refine ⟨by rw [s1]; exact z1, fun f => ?_⟩
    obtain ⟨w1, w2, w3, w4, w5, w6⟩ := s7 b f hne
    rw [w1, w2, w3, w4, w5, w6]
    exact z2 f
theorem RM.kept {K : gK} {T : MS} {H H1 : Heap} (h : RM K T H) (hq : ∀ a : Nat, (a = kh K ∨ ∃ k, mln k ≠ 0 ∧ a = km K k) → H1[a]? = H[a]?) : RM K T H1 :=
  ⟨h.1.kept (hq _ (Or.inl rfl)), fun k hk => by rw [hq _ (Or.inr ⟨k, hk, rfl⟩)]; exact h.2.1 k hk, h.2.2⟩
/-- a step at one cell of the system's -/
theorem RP.stepX {K : gK} {M M' : XS} {S : Option MS} {H H1 : Heap} {a : Nat} (h : RP K M S H) (ha : xc M a ≠ 0) (hc : xc M' = xc M) (h1 : RX K M' H1) (e3 : ∀ q : Nat, q ≠ a → H1[q]? = H[q]?) : RP K M' S H1 := by
  refine ⟨h1, fun T hT => ?_⟩
  obtain ⟨g1, g2⟩ := h.2 T hT
  refine ⟨g1.kept fun q hq => e3 q ?_, by unfold MD; rw [hc]; exact g2⟩
  rintro rfl
  rcases hq with e | ⟨k, hk, e⟩
  · rw [e] at ha; exact ha g2.1
  · rw [e] at ha; exact ha (g2.2 k hk)
def gtyf (ci : Nat) : Nat → FieldType := match ci with
  | 0 => tyX8
  | 1 => tyX11
  | 2 => tyX10
  | 3 => tyX9
  | 4 => tyX0
  | 5 => tyX2
  | 6 => tyX3
  | 7 => tyX4
  | 8 => tyX5
  | 9 => tyX12
  | 10 => tyX13
  | _ => tyX6
theorem gcl_cases {P : Nat → vw_C → Prop} (h0 : P 0 (RX8, TX8, 10)) (h1 : P 1 (RX11, TX11, 8)) (h2 : P 2 (RX10, TX10, 10)) (h3 : P 3 (RX9, TX9, 9)) (h4 : P 4 (RX0, TX0, 37)) (h5 : P 5 (RX2, TX2, 16)) (h6 : P 6 (RX3, TX3, 8)) (h7 : P 7 (RX4, TX4, 4)) (h8 : P 8 (RX5, TX5, 2)) (h9 : P 9 (RX12, TX12, 9)) (h10 : P 10 (RX13, TX13, 6)) (h11 : P 11 (RX6, TX6, 47)) {ci : Nat} {r : vw_C} (h : gcl[ci]? = some r) : P ci r := by
  have hl := gcl_lt h
  match ci, hl with
  | 0, _ => cases h; exact h0
  | 1, _ => cases h; exact h1
  | 2, _ => cases h; exact h2
  | 3, _ => cases h; exact h3
  | 4, _ => cases h; exact h4
  | 5, _ => cases h; exact h5
  | 6, _ => cases h; exact h6
  | 7, _ => cases h; exact h7
  | 8, _ => cases h; exact h8
  | 9, _ => cases h; exact h9
  | 10, _ => cases h; exact h10
  | 11, _ => cases h; exact h11
theorem gin {ci : Nat} {r : vw_C} (h : gcl[ci]? = some r) : ∀ w ∈ u_ws r.1 r.2.1 r.2.2, w ∈ lw_all :=
  gcl_cases (P := fun _ r => ∀ w ∈ u_ws r.1 r.2.1 r.2.2, w ∈ lw_all) in_X8 in_X11 in_X10 in_X9 in_X0 in_X2 in_X3 in_X4 in_X5 in_X12 in_X13 in_X6 h
theorem gtyok {ci : Nat} {r : vw_C} (h : gcl[ci]? = some r) : ∀ k, k < r.2.2 → parseFieldDescriptor (r.2.1 k).2.2.1 = some (gtyf ci k) :=
  gcl_cases (P := fun ci r => ∀ k, k < r.2.2 → parseFieldDescriptor (r.2.1 k).2.2.1 = some (gtyf ci k)) tyX8_ok tyX11_ok tyX10_ok tyX9_ok tyX0_ok tyX2_ok tyX3_ok tyX4_ok tyX5_ok tyX12_ok tyX13_ok tyX6_ok h
theorem gnmok {ci : Nat} {r : vw_C} (h : gcl[ci]? = some r) : ∀ a, a < r.2.2 → ∀ b, b < r.2.2 → a ≠ b → (r.2.1 a).2.1 ≠ (r.2.1 b).2.1 :=
  gcl_cases (P := fun _ r => ∀ a, a < r.2.2 → ∀ b, b < r.2.2 → a ≠ b → (r.2.1 a).2.1 ≠ (r.2.1 b).2.1) nmX8 nmX11 nmX10 nmX9 nmX0 nmX2 nmX3 nmX4 nmX5 nmX12 nmX13 nmX6 h
section GR2
variable {K : gK} {X : gX} {cc : ByteArray} {nL cs sl : Nat} {y0 : MethodName} {ret : Option FieldType} {rm0 : Room} {M : XS} {S : Option MS} {pc : Nat} {lv : List (Nat × Value)} {rest : List Value}
theorem gC.ap {ci : Nat} {r : vw_C} (C : gC K X cc nL y0 ret rm0) (hr : gcl[ci]? = some r) : ∀ x y, x < r.2.2 → y < r.2.2 → x ≠ y → ((kD K).2 ci) x ≠ ((kD K).2 ci) y :=
  va_apart (own := y0.cls) (cl := gcl) (ci := ci) C.2.2.2.2.1 (gin hr) (gtyf ci) (gtyok hr) (gnmok hr) C.2.2.2.2.2.2.2.2.1.1 hr
theorem GG.putX (C : gC K X cc nL y0 ret rm0) {a ci k idx : Nat} {r : vw_C} {ref : String} {v : Value} {M' : XS} (hc : xc M a = ci + 1) (hr : gcl[ci]? = some r) (hk : k < r.2.2) (hfin : (r.2.1 k).2.2.2 = false)
    (hlink : Cond.fieldLink y0.cls idx ref (r.2.1 k).2.1 (r.2.1 k).2.2.1 ∈ lw_all) (hsame : ref = (r.2.1 k).1 ∨ Cond.sameField ref (r.2.1 k).1 (r.2.1 k).2.1 (r.2.1 k).2.2.1 ∈ lw_all)
    (hn : narrow (gtyf ci k) v = v) (hfit : fits (gtyf ci k) v = true) (hs : same1 K M M' (fb ci + k) a v)
    (hd : decode cc pc = .ok (.putfield idx, 3)) (kk : GG K X nL cs sl M' S (pc + 3) lv rest) : GG K X nL cs sl M S pc lv (v :: .ref a :: rest) := by
  intro H locs ls h1 h2 h3
  obtain ⟨cell, q1, q2, q3, q4⟩ := h1.1.1 a ci r hc hr
  obtain ⟨hS, hfc, kC, hkC, hkind⟩ := C.kn hr
  obtain ⟨cf, kf, fi, f, hi, hsl⟩ := hS k hk
  have hi2 : X.2.2.2.1.fieldFound? ref (r.2.1 k).2.1 (r.2.1 k).2.2.1 = some (cf, kf, fi, f) := by
    rcases hsame with e | e
    · rw [e]; exact hi
    · exact u_same (C.2.2.2.2.1 _ e) _ hi
  have hlay := C.2.2.2.2.1 _ (gin hr _ (u_in_lay hk))
  unfold u_lay at hlay
  rw [if_neg (by rw [hfin]; decide)] at hlay
  have hst := (u_facts hfc hkC (u_lays C.2.2.2.2.1 (gin hr) hk) hi).1
  have h6 := u_store hfc hkC hkind hlay hi (gtyok hr k hk) hn hfit
  refine W.putK C.1 C.2.1 (f := f) ⟨C.2.2.2.1, C.2.2.2.2.1 _ hlink, ⟨_, _, _, hi2⟩, hst⟩ (by rw [q2]; exact h6) q1 q3 (by rw [hsl]; exact k2_hasslot (q4 k hk)) rfl rfl hd fun H' e1 e2 e3 => ?_
  rw [hsl] at e1 ⊢
  exact kk H' _ ls (h1.stepX (by omega) hs.1 (h1.1.put hc hr hk hs (C.ap hr) q1 q2 q3 q4 e1 e2 e3) e3) (h2.put e2 e3 (h1.1.2.2.1 a (by omega))) h3
theorem GG.putXN (C : gC K X cc nL y0 ret rm0) {a ci k idx : Nat} {r : vw_C} {ref host : String} {v : Value} {M' : XS} (hc : xc M a = ci + 1) (hr : gcl[ci]? = some r) (hk : k < r.2.2) (hfin : (r.2.1 k).2.2.2 = false)
    (hlink : Cond.fieldLinkNest y0.cls idx ref (r.2.1 k).2.1 (r.2.1 k).2.2.1 host ∈ lw_tbl) (hsame : ref = (r.2.1 k).1 ∨ Cond.sameField ref (r.2.1 k).1 (r.2.1 k).2.1 (r.2.1 k).2.2.1 ∈ lw_all)
    (hn : narrow (gtyf ci k) v = v) (hfit : fits (gtyf ci k) v = true) (hs : same1 K M M' (fb ci + k) a v)
    (hd : decode cc pc = .ok (.putfield idx, 3)) (kk : GG K X nL cs sl M' S (pc + 3) lv rest) : GG K X nL cs sl M S pc lv (v :: .ref a :: rest) := by
  intro H locs ls h1 h2 h3
  obtain ⟨cell, q1, q2, q3, q4⟩ := h1.1.1 a ci r hc hr
  obtain ⟨hS, hfc, kC, hkC, hkind⟩ := C.kn hr
  obtain ⟨cf, kf, fi, f, hi, hsl⟩ := hS k hk
  have hi2 : X.2.2.2.1.fieldFound? ref (r.2.1 k).2.1 (r.2.1 k).2.2.1 = some (cf, kf, fi, f) := by
    rcases hsame with e | e
    · rw [e]; exact hi
    · exact u_same (C.2.2.2.2.1 _ e) _ hi
  have hlay := C.2.2.2.2.1 _ (gin hr _ (u_in_lay hk))
  unfold u_lay at hlay
  rw [if_neg (by rw [hfin]; decide)] at hlay
  have hst := (u_facts hfc hkC (u_lays C.2.2.2.2.1 (gin hr) hk) hi).1
  have h6 := u_store hfc hkC hkind hlay hi (gtyok hr k hk) hn hfit
  refine va_WputK C.1 C.2.1 (f := f) C.2.2.2.1 (va_Nw.use rfl (C.2.2.2.2.2.2.2.2.1.2.1 _ hlink rfl)) hi2 hst (by rw [q2]; exact h6) q1 q3 (by rw [hsl]; exact k2_hasslot (q4 k hk)) rfl rfl hd fun H' e1 e2 e3 => ?_
  rw [hsl] at e1 ⊢
  exact kk H' _ ls (h1.stepX (by omega) hs.1 (h1.1.put hc hr hk hs (C.ap hr) q1 q2 q3 q4 e1 e2 e3) e3) (h2.put e2 e3 (h1.1.2.2.1 a (by omega))) h3
theorem GG.putXF (C : gC K X cc nL y0 ret rm0) {a ci k idx : Nat} {r : vw_C} {ref : String} {v : Value} {M' : XS} (hc : xc M a = ci + 1) (hr : gcl[ci]? = some r) (hk : k < r.2.2) (hfin : (r.2.1 k).2.2.2 = true) (hin2 : y0.name = "<init>") (hdecl : (r.2.1 k).1 = y0.cls)
    (hlink : Cond.fieldLink y0.cls idx ref (r.2.1 k).2.1 (r.2.1 k).2.2.1 ∈ lw_all) (hsame : ref = (r.2.1 k).1 ∨ Cond.sameField ref (r.2.1 k).1 (r.2.1 k).2.1 (r.2.1 k).2.2.1 ∈ lw_all)
    (hn : narrow (gtyf ci k) v = v) (hfit : fits (gtyf ci k) v = true) (hs : same1 K M M' (fb ci + k) a v)
    (hd : decode cc pc = .ok (.putfield idx, 3)) (kk : GG K X nL cs sl M' S (pc + 3) lv rest) : GG K X nL cs sl M S pc lv (v :: .ref a :: rest) := by
  intro H locs ls h1 h2 h3
  obtain ⟨cell, q1, q2, q3, q4⟩ := h1.1.1 a ci r hc hr
  obtain ⟨hS, hfc, kC, hkC, hkind⟩ := C.kn hr
  obtain ⟨cf, kf, fi, f, hi, hsl⟩ := hS k hk
  have hi2 : X.2.2.2.1.fieldFound? ref (r.2.1 k).2.1 (r.2.1 k).2.2.1 = some (cf, kf, fi, f) := by
    rcases hsame with e | e
    · rw [e]; exact hi
    · exact u_same (C.2.2.2.2.1 _ e) _ hi
  have hlay := C.2.2.2.2.1 _ (gin hr _ (u_in_lay hk))
  unfold u_lay at hlay
  rw [if_pos hfin] at hlay
  have hst := (u_facts hfc hkC (u_lays C.2.2.2.2.1 (gin hr) hk) hi).1
  have hcf : X.2.2.2.2.1.cls = cf := by
    obtain ⟨_, _, c', _, _, _, -, -, hf', -, -, -, hown2, -⟩ := Cond.laysFinal_spec hlay
    have e1 : c' = cf := by have := hi.symm.trans hf'; simp at this; exact this.1.symm
    rw [hdecl] at hown2
    rw [← e1]; exact Option.some.inj (C.2.2.2.1.symm.trans hown2)
  have h6 := u_fits hfc hkC hkind (Or.inr hlay) hi (gtyok hr k hk) hn hfit
  refine W.putFinK C.1 C.2.1 C.2.2.2.1 (C.2.2.2.2.1 _ hlink) hi2 hst hcf (C.2.2.2.2.2.2.2.2.2.2.trans hin2) (by rw [q2]; exact h6) q1 q3 (by rw [hsl]; exact k2_hasslot (q4 k hk)) rfl rfl hd fun H' e1 e2 e3 => ?_
  rw [hsl] at e1 ⊢
  exact kk H' _ ls (h1.stepX (by omega) hs.1 (h1.1.put hc hr hk hs (C.ap hr) q1 q2 q3 q4 e1 e2 e3) e3) (h2.put e2 e3 (h1.1.2.2.1 a (by omega))) h3
theorem va_P1 {D : va_G} {cl : List vw_C} {q : Nat × va_E} {H : Heap} (h : va_at D cl q H) : va_P D cl [q] H := by
  intro k q' hk
  have hz : k < 1 := (List.getElem?_eq_some_iff.mp hk).1
  rw [show k = 0 by omega] at hk
  cases hk
  exact h
theorem GG.iald (C : gC K X cc nL y0 ret rm0) {a : Nat} {i v : Int32} (h : xild M 0 a i = some v) (hd : decode cc pc = .ok (.iaload, 1)) (kk : GG K X nL cs sl M S (pc + 1) lv (.int v :: rest)) : GG K X nL cs sl M S pc lv (.int i :: .ref a :: rest) := by
  intro H locs ls h1 h2 h3
  obtain ⟨⟨hc, hin⟩, hv⟩ := gd_some h
  cases hv
  exact va_iald C.1 C.2.1 C.2.2.2.2.2.2.2.2.1.1 (va_P1 (q := (a, .inl (kA K 0, xn M a, .inl (xi M a)))) (h1.1.2.1 a 0 hc (by decide))) 0 0 rfl rfl hin hd (kk H locs ls h1 h2 h3)
theorem GG.bald (C : gC K X cc nL y0 ret rm0) {a : Nat} {i v : Int32} (h : xild M 1 a i = some v) (hd : decode cc pc = .ok (.baload, 1)) (kk : GG K X nL cs sl M S (pc + 1) lv (.int v :: rest)) : GG K X nL cs sl M S pc lv (.int i :: .ref a :: rest) := by
  intro H locs ls h1 h2 h3
  obtain ⟨⟨hc, hin⟩, hv⟩ := gd_some h
  cases hv
  exact va_bald C.1 C.2.1 C.2.2.2.2.2.2.2.2.1.1 (va_P1 (q := (a, .inl (kA K 1, xn M a, .inl (xi M a)))) (h1.1.2.1 a 1 hc (by decide))) 0 1 rfl rfl hin hd (kk H locs ls h1 h2 h3)
theorem GG.sald (C : gC K X cc nL y0 ret rm0) {a : Nat} {i v : Int32} (h : xild M 2 a i = some v) (hd : decode cc pc = .ok (.saload, 1)) (kk : GG K X nL cs sl M S (pc + 1) lv (.int v :: rest)) : GG K X nL cs sl M S pc lv (.int i :: .ref a :: rest) := by
  intro H locs ls h1 h2 h3
  obtain ⟨⟨hc, hin⟩, hv⟩ := gd_some h
  cases hv
  exact va_sald C.1 C.2.1 C.2.2.2.2.2.2.2.2.1.1 (va_P1 (q := (a, .inl (kA K 2, xn M a, .inl (xi M a)))) (h1.1.2.1 a 2 hc (by decide))) 0 2 rfl rfl hin hd (kk H locs ls h1 h2 h3)
theorem GG.lald (C : gC K X cc nL y0 ret rm0) {a : Nat} {i : Int32} {v : Int64} (h : xlld M a i = some v) (hd : decode cc pc = .ok (.laload, 1)) (kk : GG K X nL cs sl M S (pc + 1) lv (.long v :: rest)) : GG K X nL cs sl M S pc lv (.int i :: .ref a :: rest) := by
  intro H locs ls h1 h2 h3
  obtain ⟨⟨hc, hin⟩, hv⟩ := gd_some h
  cases hv
  exact va_lald C.1 C.2.1 C.2.2.2.2.2.2.2.2.1.1 (va_P1 (q := (a, .inl (kA K 3, xn M a, .inr (.inl (xl M a))))) (h1.1.2.1 a 3 hc (by decide))) 0 3 rfl rfl hin hd (kk H locs ls h1 h2 h3)
/-- an element of a row of references, known not to be null: tag t of 4 .. 7 -/
theorem GG.aald (C : gC K X cc nL y0 ret rm0) {a : Nat} {i : Int32} {v : Nat} (t : Nat) (h : xrld M (4 + t) a i = some v) (ht : t < 4) (hd : decode cc pc = .ok (.aaload, 1)) (kk : GG K X nL cs sl M S (pc + 1) lv (.ref v :: rest)) : GG K X nL cs sl M S pc lv (.int i :: .ref a :: rest) := by
  intro H locs ls h1 h2 h3
  obtain ⟨⟨hc, hin⟩, hv⟩ := gd_some h
  have e : ∀ (t' : Nat) (C' : String) (hk : (gtys K)[t']? = some (kA K t', .object C')) (h4 : 4 ≤ t') (h8 : t' < 8) (hq : xc M a = 100 + t') (hav : ∀ j, aval M t' a j = va_rf (xr M a j)), gW K X H locs cs sl (F0 X.2.2.2.2.1 pc ls (.int i :: .ref a :: rest)) := by
    intro t' C' hk h4 h8 hq hav
    refine va_aldq C.1 C.2.1 C.2.2.2.2.2.2.2.2.1.1 (va_P1 (q := (a, .inl (kA K t', xn M a, .inr (.inr (.inr (.inr (xr M a)))))))  ?_) 0 t' rfl hk hin hd ?_
    · have hz := h1.1.2.1 a t' hq h8
      rw [funext hav] at hz
      exact hz
    · rw [hv]; exact kk H locs ls h1 h2 h3
  match t, ht with
  | 0, _ => exact e 4 _ rfl (by decide) (by decide) hc (fun _ => rfl)
  | 1, _ => exact e 5 _ rfl (by decide) (by decide) hc (fun _ => rfl)
  | 2, _ => exact e 6 _ rfl (by decide) (by decide) hc (fun _ => rfl)
  | 3, _ => exact e 7 _ rfl (by decide) (by decide) hc (fun _ => rfl)
end GR2
/-- one element of one array set -/
def sameA (K : gK) (M M' : XS) (a : Nat) : Prop :=
  xc M' = xc M ∧ xn M' = xn M ∧ xz M' = xz M ∧ (∀ g b : Nat, fval K M' g b = fval K M g b) ∧ (∀ t b j : Nat, b ≠ a → aval M' t b j = aval M t b j) ∧
  ∀ b g : Nat, b ≠ a → xI M' g b = xI M g b ∧ xL M' g b = xL M g b ∧ xR M' g b = xR M g b ∧ xi M' b g = xi M b g ∧ xl M' b g = xl M b g ∧ xr M' b g = xr M b g
theorem fval_eq {K : gK} {M M' : XS} (h1 : xI M' = xI M) (h2 : xL M' = xL M) (h3 : xR M' = xR M) (f a : Nat) : fval K M' f a = fval K M f a := by
  unfold fval; rw [h1, h2, h3]
theorem up2_ne {α : Type} {g : Nat → Nat → α} {f a x y : Nat} {v : α} (h : x ≠ f ∨ y ≠ a) : up2 g f a v x y = g x y := by
  unfold up2
  rw [if_neg (by rintro ⟨q1, q2⟩; rcases h with h | h; exact h q1; exact h q2)]
theorem up2_eq {α : Type} {g : Nat → Nat → α} {f a : Nat} {v : α} : up2 g f a v f a = v := by simp [up2]
theorem sameA_i {K : gK} {M : XS} {a j : Nat} {x : Int32} : sameA K M (si M a j x) a := by
  refine ⟨rfl, rfl, rfl, fval_eq rfl rfl rfl, ?_, ?_⟩
  · intro t b i h
    have e : xi (si M a j x) b i = xi M b i := up2_ne (Or.inl h)
    unfold aval; rw [e]; rfl
  · exact fun b g h => ⟨rfl, rfl, rfl, up2_ne (Or.inl h), rfl, rfl⟩
theorem sameA_l {K : gK} {M : XS} {a j : Nat} {x : Int64} : sameA K M (sl M a j x) a := by
  refine ⟨rfl, rfl, rfl, fval_eq rfl rfl rfl, ?_, ?_⟩
  · intro t b i h
    have e : xl (sl M a j x) b i = xl M b i := up2_ne (Or.inl h)
    unfold aval; rw [e]; rfl
  · exact fun b g h => ⟨rfl, rfl, rfl, rfl, up2_ne (Or.inl h), rfl⟩
theorem sameA_r {K : gK} {M : XS} {a j : Nat} {x : Option Nat} : sameA K M (sr M a j x) a := by
  refine ⟨rfl, rfl, rfl, fval_eq rfl rfl rfl, ?_, ?_⟩
  · intro t b i h
    have e : xr (sr M a j x) b i = xr M b i := up2_ne (Or.inl h)
    unfold aval; rw [e]; rfl
  · exact fun b g h => ⟨rfl, rfl, rfl, rfl, rfl, up2_ne (Or.inl h)⟩
theorem RX.arr {K : gK} {M M' : XS} {H H1 : Heap} {a t : Nat} (h : RX K M H) (hc : xc M a = 100 + t) (ht : t < 8) (hs : sameA K M M' a) (e1 : H1[a]? = some (arrV (kA K t) (xn M a) (fun j => aval M' t a j))) (e2 : H1.size = H.size) (e3 : ∀ q : Nat, q ≠ a → H1[q]? = H[q]?) : RX K M' H1 := by
  obtain ⟨s1, s2, s3, s4, s5, s7⟩ := hs
  refine ⟨?_, ?_, ?_, ?_, ?_⟩
  · intro b ci' r' hc' hr'
    rw [s1] at hc'
    have hb : b ≠ a := by
      rintro rfl
      have := gcl_lt hr'
      omega
    exact ((h.1 b ci' r' hc' hr').kept (e3 b hb)).to (fun j _ => (s4 _ _).symm)
  · intro b u hc' hu
    rw [s1] at hc'
    by_cases hb : b = a
    · subst hb
      have : u = t := by omega
      subst this
      rw [e1, s2]
    · rw [e3 b hb, h.2.1 b u hc' hu, s2]
      congr 2
      funext j
      exact (s5 u b j hb).symm
  · intro b hb
    rw [s1] at hb
    exact h.2.2.1 b hb
  · rw [s3, e2]; exact h.2.2.2.1
  · intro b hb
    rw [s3] at hb
    have ha := h.lt (a := a) (by omega)
    have hne : b ≠ a := by omega
    obtain ⟨z1, z2⟩ := h.2.2.2.2 b hb
    refine ⟨by rw [s1]; exact z1, fun f => ?_⟩
    obtain ⟨w1, w2, w3, w4, w5, w6⟩ := s7 b f hne
    rw [w1, w2, w3, w4, w5, w6]
    exact z2 f
section GR3
variable {K : gK} {X : gX} {cc : ByteArray} {nL cs sl_ : Nat} {y0 : MethodName} {ret : Option FieldType} {rm0 : Room} {M : XS} {S : Option MS} {pc : Nat} {lv : List (Nat × Value)} {rest : List Value}
theorem GG.iast (C : gC K X cc nL y0 ret rm0) {a : Nat} {i v : Int32} {M' : XS} (h : xist M 0 a i v = some M') (hd : decode cc pc = .ok (.iastore, 1)) (kk : GG K X nL cs sl_ M' S (pc + 1) lv rest) : GG K X nL cs sl_ M S pc lv (.int v :: .int i :: .ref a :: rest) := by
  intro H locs ls h1 h2 h3
  obtain ⟨⟨hc, hin⟩, hv⟩ := gd_some h
  cases hv
  have hz := h1.1.2.1 a 0 hc (by decide)
  refine W.iast C.1 C.2.1 hz ((C.2.2.2.2.2.2.2.2.1.1.2 0 _ rfl).1 (xn M a) (fun j => aval M 0 a j)) (fun q => by cases q) (by rw [arrV_size]; exact hin) rfl rfl hd fun H1 e z oq => ?_
  exact kk H1 _ ls (h1.stepX (by omega) rfl (h1.1.arr hc (by decide) sameA_i (by
    rw [e, arrV_store]; congr 2; funext q
    by_cases hq : q = i.toNatClampNeg
    · subst hq
      show updV _ _ _ _ = Value.int (up2 _ _ _ _ _ _)
      rw [up2_eq]; simp [updV]
    · show updV _ _ _ _ = Value.int (up2 _ _ _ _ _ _)
      rw [up2_ne (Or.inr hq)]; simp [updV, hq]; rfl) z oq) oq) (h2.put z oq (h1.1.2.2.1 a (by omega))) h3
theorem GG.bast (C : gC K X cc nL y0 ret rm0) {a : Nat} {i v : Int32} {M' : XS} (h : xist M 1 a i (v.toInt8.toInt32) = some M') (hd : decode cc pc = .ok (.bastore, 1)) (kk : GG K X nL cs sl_ M' S (pc + 1) lv rest) : GG K X nL cs sl_ M S pc lv (.int v :: .int i :: .ref a :: rest) := by
  intro H locs ls h1 h2 h3
  obtain ⟨⟨hc, hin⟩, hv⟩ := gd_some h
  cases hv
  have hz := h1.1.2.1 a 1 hc (by decide)
  refine W.bast C.1 C.2.1 hz ((C.2.2.2.2.2.2.2.2.1.1.2 1 _ rfl).1 (xn M a) (fun j => aval M 1 a j)) (fun q => by cases q) (by rw [arrV_size]; exact hin) rfl rfl hd fun H1 e z oq => ?_
  exact kk H1 _ ls (h1.stepX (by omega) rfl (h1.1.arr hc (by decide) sameA_i (by
    rw [e, arrV_store]; congr 2; funext q
    by_cases hq : q = i.toNatClampNeg
    · subst hq
      show updV _ _ _ _ = Value.int (up2 _ _ _ _ _ _)
      rw [up2_eq]; simp [updV]; rfl
    · show updV _ _ _ _ = Value.int (up2 _ _ _ _ _ _)
      rw [up2_ne (Or.inr hq)]; simp [updV, hq]; rfl) z oq) oq) (h2.put z oq (h1.1.2.2.1 a (by omega))) h3
theorem GG.sast (C : gC K X cc nL y0 ret rm0) {a : Nat} {i v : Int32} {M' : XS} (h : xist M 2 a i (v.toInt16.toInt32) = some M') (hd : decode cc pc = .ok (.sastore, 1)) (kk : GG K X nL cs sl_ M' S (pc + 1) lv rest) : GG K X nL cs sl_ M S pc lv (.int v :: .int i :: .ref a :: rest) := by
  intro H locs ls h1 h2 h3
  obtain ⟨⟨hc, hin⟩, hv⟩ := gd_some h
  cases hv
  have hz := h1.1.2.1 a 2 hc (by decide)
  refine W.sast C.1 C.2.1 hz ((C.2.2.2.2.2.2.2.2.1.1.2 2 _ rfl).1 (xn M a) (fun j => aval M 2 a j)) (fun q => by cases q) (by rw [arrV_size]; exact hin) rfl rfl hd fun H1 e z oq => ?_
  exact kk H1 _ ls (h1.stepX (by omega) rfl (h1.1.arr hc (by decide) sameA_i (by
    rw [e, arrV_store]; congr 2; funext q
    by_cases hq : q = i.toNatClampNeg
    · subst hq
      show updV _ _ _ _ = Value.int (up2 _ _ _ _ _ _)
      rw [up2_eq]; simp [updV]; rfl
    · show updV _ _ _ _ = Value.int (up2 _ _ _ _ _ _)
      rw [up2_ne (Or.inr hq)]; simp [updV, hq]; rfl) z oq) oq) (h2.put z oq (h1.1.2.2.1 a (by omega))) h3
theorem GG.last (C : gC K X cc nL y0 ret rm0) {a : Nat} {i : Int32} {v : Int64} {M' : XS} (h : xlst M a i v = some M') (hd : decode cc pc = .ok (.lastore, 1)) (kk : GG K X nL cs sl_ M' S (pc + 1) lv rest) : GG K X nL cs sl_ M S pc lv (.long v :: .int i :: .ref a :: rest) := by
  intro H locs ls h1 h2 h3
  obtain ⟨⟨hc, hin⟩, hv⟩ := gd_some h
  cases hv
  have hz := h1.1.2.1 a 3 hc (by decide)
  refine W.last C.1 C.2.1 hz ((C.2.2.2.2.2.2.2.2.1.1.2 3 _ rfl).1 (xn M a) (fun j => aval M 3 a j)) (fun q => by cases q) (by rw [arrV_size]; exact hin) rfl rfl hd fun H1 e z oq => ?_
  exact kk H1 _ ls (h1.stepX (by omega) rfl (h1.1.arr (t := 3) hc (by decide) sameA_l (by
    rw [e, arrV_store]; congr 2; funext q
    by_cases hq : q = i.toNatClampNeg
    · subst hq
      show updV _ _ _ _ = Value.long (up2 _ _ _ _ _ _)
      rw [up2_eq]; simp [updV]
    · show updV _ _ _ _ = Value.long (up2 _ _ _ _ _ _)
      rw [up2_ne (Or.inr hq)]; simp [updV, hq]; rfl) z oq) oq) (h2.put z oq (h1.1.2.2.1 a (by omega))) h3
end GR3
/-! the model's fields and arrays -/
theorem RX.kept {K : gK} {M : XS} {H H1 : Heap} (h : RX K M H) (z : H1.size = H.size) (hq : ∀ a : Nat, xc M a ≠ 0 → H1[a]? = H[a]?) : RX K M H1 := by
  refine ⟨fun a ci r hc hr => (h.1 a ci r hc hr).kept (hq a (by omega)), fun a t hc ht => ?_, h.2.2.1, by rw [z]; exact h.2.2.2.1, h.2.2.2.2⟩
  rw [hq a (by omega)]
  exact h.2.1 a t hc ht
theorem mval_I {K : gK} {T : MS} {k j : Nat} {x : Int32} (h : j ≠ k) : mval K (msI T k x) j = mval K T j := by
  have e : mI (msI T k x) j = mI T j := by
    show up1 T.1 k x j = T.1 j
    unfold up1; rw [if_neg h]
  unfold mval; rw [e]; rfl
theorem mval_L {K : gK} {T : MS} {k j : Nat} {x : Int64} (h : j ≠ k) : mval K (msL T k x) j = mval K T j := by
  have e : mL (msL T k x) j = mL T j := by
    show up1 T.2.1 k x j = T.2.1 j
    unfold up1; rw [if_neg h]
  unfold mval; rw [e]; rfl
theorem mav_A {T : MS} {k j k' j' : Nat} {x : Int32} (h : k' ≠ k ∨ j' ≠ j) : mav (msA T k j x) k' j' = mav T k' j' := by
  have e : mA (msA T k j x) k' j' = mA T k' j' := up2_ne h
  unfold mav; rw [e]; rfl
theorem mav_B {T : MS} {k j k' j' : Nat} {x : Int64} (h : k' ≠ k ∨ j' ≠ j) : mav (msB T k j x) k' j' = mav T k' j' := by
  have e : mB (msB T k j x) k' j' = mB T k' j' := up2_ne h
  unfold mav; rw [e]; rfl
theorem RM.arr {K : gK} {T T' : MS} {H H1 : Heap} {k : Nat} (h : RM K T H) (hk : mln k ≠ 0) (hm : ∀ j, mval K T' j = mval K T j) (ha : ∀ k' j, k' ≠ k → mav T' k' j = mav T k' j)
    (e1 : H1[km K k]? = some (arrV (kA K (mtg k)) (mln k) (fun j => mav T' k j))) (e3 : ∀ q : Nat, q ≠ km K k → H1[q]? = H[q]?) : RM K T' H1 := by
  refine ⟨?_, ?_, h.2.2⟩
  · exact (h.1.kept (e3 _ (fun q => (h.2.2.2 k hk).2.1 q.symm))).to (fun j _ => (hm j).symm)
  · intro k' hk'
    by_cases e : k' = k
    · subst e; exact e1
    · rw [e3 _ (fun q => e ((h.2.2.2 k' hk').2.2 k hk q)), h.2.1 k' hk']
      congr 2
      funext j
      exact (ha k' j e).symm
/-- a step at one cell of the model's -/
theorem RP.stepM {K : gK} {M : XS} {T T' : MS} {H H1 : Heap} {a : Nat} (h : RP K M (some T) H) (ha : xc M a = 0) (h1 : RM K T' H1) (z : H1.size = H.size) (e3 : ∀ q : Nat, q ≠ a → H1[q]? = H[q]?) : RP K M (some T') H1 := by
  refine ⟨h.1.kept z (fun q hq => e3 q (by rintro rfl; exact hq ha)), fun T2 hT => ?_⟩
  cases hT
  exact ⟨h1, (h.2 T rfl).2⟩
section GR4
variable {K : gK} {X : gX} {cc : ByteArray} {nL cs sl_ : Nat} {y0 : MethodName} {ret : Option FieldType} {rm0 : Room} {M : XS} {S : Option MS} {T : MS} {pc : Nat} {lv : List (Nat × Value)} {rest : List Value}
theorem GG.getM (C : gC K X cc nL y0 ret rm0) {k idx : Nat} (hk : k < 47) (hlink : Cond.fieldLink y0.cls idx RX6 (TX6 k).2.1 (TX6 k).2.2.1 ∈ lw_all) (ho : (TX6 k).1 = RX6)
    (hd : decode cc pc = .ok (.getfield idx, 3)) (kk : GG K X nL cs sl_ M (some T) (pc + 3) lv (mval K T k :: rest)) : GG K X nL cs sl_ M (some T) pc lv (.ref (kh K) :: rest) := by
  intro H locs ls h1 h2 h3
  obtain ⟨cell, q1, q2, q3, q4⟩ := (h1.2 T rfl).1.1
  obtain ⟨hS, hfc, kC, hkC, hkind⟩ := C.kn (ci := 11) rfl
  obtain ⟨cf, kf, fi, f, hi, hsl⟩ := hS k hk
  have hi2 := hi
  rw [ho] at hi2
  exact W.getf C.1 C.2.1 C.2.2.2.1 (C.2.2.2.2.1 _ hlink) hi2 (u_facts hfc hkC (u_lays C.2.2.2.2.1 in_X6 hk) hi).1 q1 (by rw [q3]; exact fun h => by cases h) (by rw [hsl]; exact q4 k hk) rfl rfl hd (kk H locs ls h1 h2 h3)
theorem GG.putM (C : gC K X cc nL y0 ret rm0) {k idx : Nat} {v : Value} {T' : MS} (hk : k < 47) (hfin : (TX6 k).2.2.2 = false) (hlink : Cond.fieldLink y0.cls idx RX6 (TX6 k).2.1 (TX6 k).2.2.1 ∈ lw_all) (ho : (TX6 k).1 = RX6)
    (hn : narrow (tyX6 k) v = v) (hfit : fits (tyX6 k) v = true) (hv : mval K T' k = v) (hs : ∀ j, j ≠ k → mval K T' j = mval K T j) (ha : ∀ k' j, mav T' k' j = mav T k' j)
    (hd : decode cc pc = .ok (.putfield idx, 3)) (kk : GG K X nL cs sl_ M (some T') (pc + 3) lv rest) : GG K X nL cs sl_ M (some T) pc lv (v :: .ref (kh K) :: rest) := by
  intro H locs ls h1 h2 h3
  have hRM := (h1.2 T rfl).1
  obtain ⟨cell, q1, q2, q3, q4⟩ := hRM.1
  obtain ⟨hS, hfc, kC, hkC, hkind⟩ := C.kn (ci := 11) rfl
  obtain ⟨cf, kf, fi, f, hi, hsl⟩ := hS k hk
  have hi2 := hi
  rw [ho] at hi2
  have hlay := C.2.2.2.2.1 _ (in_X6 _ (u_in_lay hk))
  unfold u_lay at hlay
  rw [if_neg (by rw [hfin]; decide)] at hlay
  have hst := (u_facts hfc hkC (u_lays C.2.2.2.2.1 in_X6 hk) hi).1
  have h6 := u_store hfc hkC hkind hlay hi (tyX6_ok k hk) hn hfit
  refine W.putK C.1 C.2.1 (f := f) ⟨C.2.2.2.1, C.2.2.2.2.1 _ hlink, ⟨_, _, _, hi2⟩, hst⟩ (by rw [q2]; exact h6) q1 q3 (by rw [hsl]; exact k2_hasslot (q4 k hk)) rfl rfl hd fun H' e1 e2 e3 => ?_
  rw [hsl] at e1 ⊢
  refine kk H' _ ls (h1.stepM (h1.2 T rfl).2.1 ⟨?_, ?_, hRM.2.2⟩ e2 e3) (h2.put e2 e3 hRM.2.2.1) h3
  · refine ⟨_, e1, q2, q3, fun j hj => ?_⟩
    rw [t_set (V := fun j => mval K T j) q4 (C.ap (ci := 11) rfl) hk v j hj]
    by_cases hjk : j = k
    · subst hjk; simp [updV, hv]
    · simp only [updV, if_neg hjk]; rw [hs j hjk]
  · intro k' hk'
    rw [e3 _ (hRM.2.2.2 k' hk').2.1, hRM.2.1 k' hk']
    congr 2
    funext j
    exact (ha k' j).symm
theorem GG.mi (C : gC K X cc nL y0 ret rm0) {k : Nat} {i v : Int32} (hk : mtg k = 0) (h : mild T k i = some v) (hd : decode cc pc = .ok (.iaload, 1)) (kk : GG K X nL cs sl_ M (some T) (pc + 1) lv (.int v :: rest)) : GG K X nL cs sl_ M (some T) pc lv (.int i :: .ref (km K k) :: rest) := by
  intro H locs ls h1 h2 h3
  obtain ⟨⟨hc, hin⟩, hv⟩ := gd_some h
  cases hv
  have hz := (h1.2 T rfl).1.2.1 k (fun e => hin (Or.inr (by rw [e]; exact Nat.zero_le _)))
  have ev : ∀ j, mav T k j = .int (mA T k j) := fun j => by unfold mav; rw [hk]; rfl
  rw [hk, funext ev] at hz
  exact va_iald C.1 C.2.1 C.2.2.2.2.2.2.2.2.1.1 (va_P1 (q := (km K k, .inl (kA K 0, mln k, .inl (mA T k)))) hz) 0 0 rfl rfl hin hd (kk H locs ls h1 h2 h3)
theorem GG.mb (C : gC K X cc nL y0 ret rm0) {k : Nat} {i v : Int32} (hk : mtg k = 1) (h : mild T k i = some v) (hd : decode cc pc = .ok (.baload, 1)) (kk : GG K X nL cs sl_ M (some T) (pc + 1) lv (.int v :: rest)) : GG K X nL cs sl_ M (some T) pc lv (.int i :: .ref (km K k) :: rest) := by
  intro H locs ls h1 h2 h3
  obtain ⟨⟨hc, hin⟩, hv⟩ := gd_some h
  cases hv
  have hz := (h1.2 T rfl).1.2.1 k (fun e => hin (Or.inr (by rw [e]; exact Nat.zero_le _)))
  have ev : ∀ j, mav T k j = .int (mA T k j) := fun j => by unfold mav; rw [hk]; rfl
  rw [hk, funext ev] at hz
  exact va_bald C.1 C.2.1 C.2.2.2.2.2.2.2.2.1.1 (va_P1 (q := (km K k, .inl (kA K 1, mln k, .inl (mA T k)))) hz) 0 1 rfl rfl hin hd (kk H locs ls h1 h2 h3)
theorem GG.ml (C : gC K X cc nL y0 ret rm0) {k : Nat} {i : Int32} {v : Int64} (h : mlld T k i = some v) (hd : decode cc pc = .ok (.laload, 1)) (kk : GG K X nL cs sl_ M (some T) (pc + 1) lv (.long v :: rest)) : GG K X nL cs sl_ M (some T) pc lv (.int i :: .ref (km K k) :: rest) := by
  intro H locs ls h1 h2 h3
  obtain ⟨⟨hk, hin⟩, hv⟩ := gd_some h
  cases hv
  have hz := (h1.2 T rfl).1.2.1 k (fun e => hin (Or.inr (by rw [e]; exact Nat.zero_le _)))
  have ev : ∀ j, mav T k j = .long (mB T k j) := fun j => by unfold mav; rw [hk]; rfl
  rw [hk, funext ev] at hz
  exact va_lald C.1 C.2.1 C.2.2.2.2.2.2.2.2.1.1 (va_P1 (q := (km K k, .inl (kA K 3, mln k, .inr (.inl (mB T k))))) hz) 0 3 rfl rfl hin hd (kk H locs ls h1 h2 h3)
theorem GG.mis (C : gC K X cc nL y0 ret rm0) {k : Nat} {i v : Int32} {T' : MS} (hk : mtg k = 0) (h : mist T k i v = some T') (hd : decode cc pc = .ok (.iastore, 1)) (kk : GG K X nL cs sl_ M (some T') (pc + 1) lv rest) : GG K X nL cs sl_ M (some T) pc lv (.int v :: .int i :: .ref (km K k) :: rest) := by
  intro H locs ls h1 h2 h3
  obtain ⟨⟨hc, hin⟩, hv⟩ := gd_some h
  cases hv
  have hRM := (h1.2 T rfl).1
  have hk0 : mln k ≠ 0 := fun e => hin (Or.inr (by rw [e]; exact Nat.zero_le _))
  have hz := hRM.2.1 k hk0
  have ev : ∀ (T : MS) (j : Nat), mav T k j = .int (mA T k j) := fun T j => by unfold mav; rw [hk]; rfl
  rw [hk] at hz
  refine W.iast C.1 C.2.1 hz ((C.2.2.2.2.2.2.2.2.1.1.2 0 _ rfl).1 (mln k) (fun j => mav T k j)) (fun q => by cases q) (by rw [arrV_size]; exact hin) rfl rfl hd fun H1 e z oq => ?_
  refine kk H1 _ ls (h1.stepM ((h1.2 T rfl).2.2 k hk0) (hRM.arr hk0 (fun j => rfl) (fun k' j hne => mav_A (Or.inl hne)) ?_ oq) z oq) (h2.put z oq (hRM.2.2.2 k hk0).1) h3
  rw [e, arrV_store, hk]; congr 2; funext q
  by_cases hq : q = i.toNatClampNeg
  · subst hq
    rw [ev (msA T k i.toNatClampNeg v)]
    show updV _ _ _ _ = Value.int (up2 _ _ _ _ _ _)
    rw [up2_eq]; simp [updV]
  · rw [mav_A (Or.inr hq)]; simp [updV, hq]
theorem GG.mbs (C : gC K X cc nL y0 ret rm0) {k : Nat} {i v : Int32} {T' : MS} (hk : mtg k = 1) (h : mist T k i (v.toInt8.toInt32) = some T') (hd : decode cc pc = .ok (.bastore, 1)) (kk : GG K X nL cs sl_ M (some T') (pc + 1) lv rest) : GG K X nL cs sl_ M (some T) pc lv (.int v :: .int i :: .ref (km K k) :: rest) := by
  intro H locs ls h1 h2 h3
  obtain ⟨⟨hc, hin⟩, hv⟩ := gd_some h
  cases hv
  have hRM := (h1.2 T rfl).1
  have hk0 : mln k ≠ 0 := fun e => hin (Or.inr (by rw [e]; exact Nat.zero_le _))
  have hz := hRM.2.1 k hk0
  have ev : ∀ (T : MS) (j : Nat), mav T k j = .int (mA T k j) := fun T j => by unfold mav; rw [hk]; rfl
  rw [hk] at hz
  refine W.bast C.1 C.2.1 hz ((C.2.2.2.2.2.2.2.2.1.1.2 1 _ rfl).1 (mln k) (fun j => mav T k j)) (fun q => by cases q) (by rw [arrV_size]; exact hin) rfl rfl hd fun H1 e z oq => ?_
  refine kk H1 _ ls (h1.stepM ((h1.2 T rfl).2.2 k hk0) (hRM.arr hk0 (fun j => rfl) (fun k' j hne => mav_A (Or.inl hne)) ?_ oq) z oq) (h2.put z oq (hRM.2.2.2 k hk0).1) h3
  rw [e, arrV_store, hk]; congr 2; funext q
  by_cases hq : q = i.toNatClampNeg
  · subst hq
    rw [ev (msA T k i.toNatClampNeg (v.toInt8.toInt32))]
    show updV _ _ _ _ = Value.int (up2 _ _ _ _ _ _)
    rw [up2_eq]; simp [updV]; rfl
  · rw [mav_A (Or.inr hq)]; simp [updV, hq]
theorem GG.mls (C : gC K X cc nL y0 ret rm0) {k : Nat} {i : Int32} {v : Int64} {T' : MS} (h : mlst T k i v = some T') (hd : decode cc pc = .ok (.lastore, 1)) (kk : GG K X nL cs sl_ M (some T') (pc + 1) lv rest) : GG K X nL cs sl_ M (some T) pc lv (.long v :: .int i :: .ref (km K k) :: rest) := by
  intro H locs ls h1 h2 h3
  obtain ⟨⟨hk, hin⟩, hv⟩ := gd_some h
  cases hv
  have hRM := (h1.2 T rfl).1
  have hk0 : mln k ≠ 0 := fun e => hin (Or.inr (by rw [e]; exact Nat.zero_le _))
  have hz := hRM.2.1 k hk0
  have ev : ∀ (T : MS) (j : Nat), mav T k j = .long (mB T k j) := fun T j => by unfold mav; rw [hk]; rfl
  rw [hk] at hz
  refine W.last C.1 C.2.1 hz ((C.2.2.2.2.2.2.2.2.1.1.2 3 _ rfl).1 (mln k) (fun j => mav T k j)) (fun q => by cases q) (by rw [arrV_size]; exact hin) rfl rfl hd fun H1 e z oq => ?_
  refine kk H1 _ ls (h1.stepM ((h1.2 T rfl).2.2 k hk0) (hRM.arr hk0 (fun j => rfl) (fun k' j hne => mav_B (Or.inl hne)) ?_ oq) z oq) (h2.put z oq (hRM.2.2.2 k hk0).1) h3
  rw [e, arrV_store, hk]; congr 2; funext q
  by_cases hq : q = i.toNatClampNeg
  · subst hq
    rw [ev (msB T k i.toNatClampNeg v)]
    show updV _ _ _ _ = Value.long (up2 _ _ _ _ _ _)
    rw [up2_eq]; simp [updV]
  · rw [mav_B (Or.inr hq)]; simp [updV, hq]
/-! calls -/
theorem gPc_blind {args : List Value} : FrameBlind (va_Pc args (GSt K M S)) := fun a U g mk h => ⟨h.1, h.2.1, h.2.2.1.calling, h.2.2.2⟩
theorem gPc_of (C : gC K X cc nL y0 ret rm0) {args : List Value} {H : Heap} {locs : List Loc} (h1 : RP K M S H) (h2 : va_S (gA K) X.2.2.2.1.heap H locs) (U : State) (hU : U.heap = H) (hW : X.2.2.2.1.WarmedH U.vm) : va_Pc args (GSt K M S) args.toArray U := by
  subst hU
  exact ⟨rfl, h1, C.2.2.2.2.2.2.2.2.1.step h2 hW, Nat.le_trans C.2.2.2.2.2.2.2.2.2.1 h2.1⟩
theorem gcall {H : Heap} {locs : List Loc} {ls : Array Slot} {g : JFrame} {oc : Option Value} {M' : XS} {S' : Option MS} {mc ms : Nat} {a : Array Value}
    (hr : va_Run X.1 (kl K) X.2.1 X.2.2.1 X.2.2.2.1 X.2.2.2.2.1 X.2.2.2.2.2.1 X.2.2.2.2.2.2.1 X.2.2.2.2.2.2.2.1 X.2.2.2.2.2.2.2.2.1 H locs cs sl_ mc ms g rest (gQc K oc M' S' a) (gA K)) (hS : va_S (gA K) X.2.2.2.1.heap H locs)
    (hg : g = F0 X.2.2.2.2.1 pc ls g.stack) (hl : lv_has ls nL lv) (kk : GG K X nL (cs + mc) (sl_ + ms) M' S' (pc + 3) lv (oc.toList ++ rest)) : gW K X H locs cs sl_ g := by
  intro T hT Y
  obtain ⟨v, st₀, t, T', L, h0, Y', hL, e1, e2, ⟨⟨hv, hG⟩, hz, hk⟩, st⟩ := hr T hT Y
  cases hv
  rw [h0] at hz hk
  obtain ⟨t2, a1, b1⟩ := kk T'.heap (locs ++ L) ls (by rw [e1]; exact hG) ⟨Nat.le_trans hS.1 (by rw [e1]; exact hz), fun q h1 h2 => by rw [e1, hk q (Nat.lt_of_lt_of_le h1 hS.1) h2]; exact hS.2.1 q h1 h2, fun q hq => by
      rcases List.mem_append.mp hq with h | h
      · exact hS.2.2 q h
      · exact hL q h⟩ hl T' rfl Y'
  refine ⟨t2, st t2 ?_, b1⟩
  have e : ({ g with pc := g.pc + 3, stack := oc.toList ++ rest } : JFrame) = F0 X.2.2.2.2.1 (pc + 3) ls (oc.toList ++ rest) := by rw [hg]
  rw [e]
  exact a1
theorem RX.recv (C : gC K X cc nL y0 ret rm0) {H : Heap} {b ci : Nat} {r : vw_C} (h : RX K M H) (hc : xc M b = ci + 1) (hr : gcl[ci]? = some r) : ∃ cellB : Cell, H[b]? = some cellB ∧ cellB.vm.isStatics = false ∧ X.2.2.2.1.vm.findClass r.1 = some cellB.cls := by
  obtain ⟨cell, q1, q2, q3, -⟩ := h.1 b ci r hc hr
  exact ⟨cell, q1, by rw [q3]; rfl, by rw [q2]; exact (C.kn hr).2.1⟩
theorem RM.recv (C : gC K X cc nL y0 ret rm0) {H : Heap} (h : RM K T H) : ∃ cellB : Cell, H[kh K]? = some cellB ∧ cellB.vm.isStatics = false ∧ X.2.2.2.1.vm.findClass RX6 = some cellB.cls := by
  obtain ⟨cell, q1, q2, q3, -⟩ := h.1
  exact ⟨cell, q1, by rw [q3]; rfl, by rw [q2]; exact (C.kn (ci := 11) rfl).2.1⟩
theorem GG.callV (C : gC K X cc nL y0 ret rm0) {Cl : String} {y : MethodName} {bytes : ByteArray} {maxL index n b : Nat} {ry : Option FieldType} {rm : Room} {As st : List Value} {oc : Option Value} {M' : XS} {S' : Option MS}
    (hrec : ∀ H : Heap, RP K M S H → ∃ cellB : Cell, H[b]? = some cellB ∧ cellB.vm.isStatics = false ∧ X.2.2.2.1.vm.findClass Cl = some cellB.cls)
    (hM : gMet K y bytes maxL ry rm (.ref b :: As) M S oc M' S') (hG : GoodIn lw_all (wsV y0.cls index Cl y (ws_ y bytes maxL ry)))
    (hdd : y.cls = Cl ∧ y.cls ≠ "java/lang/invoke/MethodHandle" ∧ y.cls ≠ "java/lang/invoke/VarHandle" ∧ (parseMethodDescriptor y.desc).map (fun d => d.parameters.length) = some n)
    (hR : rm.frames + 1 ≤ rm0.frames ∧ 8 + (maxL + 11) + rm.locals ≤ rm0.locals) (hf : cs + rm.cells ≤ rm0.cells ∧ sl_ + rm.slots ≤ rm0.slots) (hn : As.length = n) (hst : st = As.reverse ++ .ref b :: rest) (hW : (rest.map fun v => v.category).sum ≤ 8)
    (hd : decode cc pc = .ok (.invokevirtual index, 3)) (kk : GG K X nL (cs + rm.cells) (sl_ + rm.slots) M' S' (pc + 3) lv (oc.toList ++ rest)) : GG K X nL cs sl_ M S pc lv st := by
  intro H locs ls h1 h2 h3
  have hRm := C.2.2.2.2.2.2.2.1
  refine gcall (va_runV (As := As) (rest := rest) (nL := nL) ⟨C.1, C.2.1, C.2.2.1, C.2.2.2.1, C.2.2.2.2.1⟩ hM (cwV n C.2.2.2.2.1 hG rfl rfl rfl hdd (by rw [hRm]; exact hR)) ⟨gPc_blind, hrec H h1, fun U hU hW => gPc_of C h1 h2 U hU hW⟩ rfl hn h3.1 hst (lv_room hW) hd (by rw [hRm]; exact hf)) h2 rfl h3 kk
theorem GG.callS (C : gC K X cc nL y0 ret rm0) {y : MethodName} {bytes : ByteArray} {maxL index n : Nat} {ry : Option FieldType} {rm : Room} {As st : List Value} {oc : Option Value} {M' : XS} {S' : Option MS}
    (hM : gMet K y bytes maxL ry rm As M S oc M' S') (hG : GoodIn lw_all (va_wsS y0.cls index y (ws_ y bytes maxL ry)))
    (hdd : y.cls ≠ "java/lang/invoke/MethodHandle" ∧ y.cls ≠ "java/lang/invoke/VarHandle" ∧ (parseMethodDescriptor y.desc).map (fun d => d.parameters.length) = some n)
    (hR : rm.frames + 1 ≤ rm0.frames ∧ 8 + (maxL + 11) + rm.locals ≤ rm0.locals) (hf : cs + rm.cells ≤ rm0.cells ∧ sl_ + rm.slots ≤ rm0.slots) (hn : As.length = n) (hst : st = As.reverse ++ rest) (hW : (rest.map fun v => v.category).sum ≤ 8)
    (hd : decode cc pc = .ok (.invokestatic index, 3)) (kk : GG K X nL (cs + rm.cells) (sl_ + rm.slots) M' S' (pc + 3) lv (oc.toList ++ rest)) : GG K X nL cs sl_ M S pc lv st := by
  intro H locs ls h1 h2 h3
  have hRm := C.2.2.2.2.2.2.2.1
  refine gcall (va_runS (As := As) (rest := rest) (nL := nL) ⟨C.1, C.2.1, C.2.2.1, C.2.2.2.1, C.2.2.2.2.1⟩ hM (va_cwS n C.2.2.2.2.1 hG rfl rfl rfl hdd (by rw [hRm]; exact hR)) ⟨gPc_blind, fun U hU hW => gPc_of C h1 h2 U hU hW⟩ rfl hn h3.1 hst (lv_room hW) hd (by rw [hRm]; exact hf)) h2 rfl h3 kk
theorem GG.callI (C : gC K X cc nL y0 ret rm0) {y : MethodName} {bytes : ByteArray} {maxL index n b : Nat} {rm : Room} {As st : List Value} {M' : XS} {S' : Option MS}
    (hM : gMet K y bytes maxL none rm (.ref b :: As) M S none M' S') (hG : GoodIn lw_all (ws_ y bytes maxL none)) (hini : Cond.initialized y.cls ∈ lw_all) (hl : Cond.methodLink y0.cls index y ∈ lw_all) (hin : Cond.instanceMethod y ∈ lw_all) (hy1 : y.name = "<init>")
    (hdd : y.cls ≠ "java/lang/invoke/MethodHandle" ∧ y.cls ≠ "java/lang/invoke/VarHandle" ∧ (parseMethodDescriptor y.desc).map (fun d => d.parameters.length) = some n)
    (hR : rm.frames + 1 ≤ rm0.frames ∧ 8 + (maxL + 11) + rm.locals ≤ rm0.locals) (hf : cs + rm.cells ≤ rm0.cells ∧ sl_ + rm.slots ≤ rm0.slots) (hn : As.length = n) (hst : st = As.reverse ++ .ref b :: rest) (hW : (rest.map fun v => v.category).sum ≤ 8)
    (hd : decode cc pc = .ok (.invokespecial index, 3)) (kk : GG K X nL (cs + rm.cells) (sl_ + rm.slots) M' S' (pc + 3) lv rest) : GG K X nL cs sl_ M S pc lv st := by
  intro H locs ls h1 h2 h3
  have hRm := C.2.2.2.2.2.2.2.1
  refine gcall (va_runI (As := As) (rest := rest) (nL := nL) ⟨C.1, C.2.1, C.2.2.1, C.2.2.2.1, C.2.2.2.2.1⟩ hM (cwI n C.2.2.2.2.1 hG rfl rfl rfl (C.2.2.2.2.1 _ hini) (C.2.2.2.2.1 _ hl) (C.2.2.2.2.1 _ hin) hy1 hdd (by rw [hRm]; exact hR)) ⟨gPc_blind, fun U hU hW => gPc_of C h1 h2 U hU hW⟩ rfl hn h3.1 hst (lv_room hW) hd (by rw [hRm]; exact hf)) h2 rfl h3 kk
end GR4
theorem ltb_s {α β : Type} {x y : α} {k : α → β} {r : β} (hy : y = x) (h : lt_ x k = r) : k y = r := by rw [hy]; exact h
def g_max (x y : Int32) : Int32 := if x < y then y else x
def g_min (x y : Int32) : Int32 := if y < x then y else x
def g_absl (x : Int64) : Int64 := if 0 < x then x else -x
theorem zb_0 : (nI 0) &&& 1 = nI 0 := by decide
theorem zb_1 : (nI 1) &&& 1 = nI 1 := by decide
theorem lc_0 : Int64.ofNat ((0 : Fin 2) : Nat) = lN 0 := rfl
theorem lc_1 : Int64.ofNat ((1 : Fin 2) : Nat) = lN 1 := rfl
section GR5
variable {K : gK} {X : gX} {cc : ByteArray} {nL cs sl_ : Nat} {y0 : MethodName} {ret : Option FieldType} {rm0 : Room} {M : XS} {S : Option MS} {T : MS} {pc : Nat} {lv : List (Nat × Value)} {rest : List Value}
theorem GG.topi {x : Int32} (k : ∀ y : Int32, y = x → GG K X nL cs sl_ M S pc lv (.int y :: rest)) : GG K X nL cs sl_ M S pc lv (.int x :: rest) := k x rfl
theorem GG.topl {x : Int64} (k : ∀ y : Int64, y = x → GG K X nL cs sl_ M S pc lv (.long y :: rest)) : GG K X nL cs sl_ M S pc lv (.long x :: rest) := k x rfl
theorem GG.topM {x : XS} (k : ∀ y : XS, y = x → GG K X nL cs sl_ y S pc lv rest) : GG K X nL cs sl_ x S pc lv rest := k x rfl
theorem GG.topS {x : MS} (k : ∀ y : MS, y = x → GG K X nL cs sl_ M (some y) pc lv rest) : GG K X nL cs sl_ M (some x) pc lv rest := k x rfl
theorem GG.tin (C : gC K X cc nL y0 ret rm0) {dflt lo hi k : Int} {offs : Array Int} {len : Nat} {x : Int32} {off : Int} {tgt : Nat} (hd : decode cc pc = .ok (.tableswitch dflt lo hi offs, len)) (hx : x.toInt = k) (h1 : lo ≤ k) (h2 : k ≤ hi) (ho : offs[(k - lo).toNat]? = some off) (ht : (pc : Int) + off = (tgt : Int)) (kk : GG K X nL cs sl_ M S tgt lv rest) : GG K X nL cs sl_ M S pc lv (.int x :: rest) := fun H locs ls a1 a2 a3 => lv_tableIn C.1 C.2.1 hd (by rw [hx]; omega) (by rw [hx]; omega) (by rw [hx]; exact ho) ht (kk H locs ls a1 a2 a3)
theorem GG.tout (C : gC K X cc nL y0 ret rm0) {dflt lo hi : Int} {offs : Array Int} {len : Nat} {x : Int32} {tgt : Nat} (hd : decode cc pc = .ok (.tableswitch dflt lo hi offs, len)) (h : x.toInt < lo ∨ hi < x.toInt) (ht : (pc : Int) + dflt = (tgt : Int)) (kk : GG K X nL cs sl_ M S tgt lv rest) : GG K X nL cs sl_ M S pc lv (.int x :: rest) := fun H locs ls a1 a2 a3 => lv_tableOut C.1 C.2.1 hd h ht (kk H locs ls a1 a2 a3)
theorem GG.mmax (C : gC K X cc nL y0 ret rm0) {i : Nat} {x y : Int32} (hq : Cond.methodLink y0.cls i Lib.Math.max.name ∈ lw_all) (hf : 1 ≤ rm0.frames) (hl : (rest.map fun v => v.category).sum + 13 ≤ rm0.locals) (hc : cs ≤ rm0.cells) (hs : sl_ ≤ rm0.slots) (hd : decode cc pc = .ok (.invokestatic i, 3)) (k : GG K X nL cs sl_ M S (pc + 3) lv (.int (g_max x y) :: rest)) : GG K X nL cs sl_ M S pc lv (.int y :: .int x :: rest) := by
  intro H locs ls h1 h2 h3
  have hRm := C.2.2.2.2.2.2.2.1
  exact va_mmax C.1 C.2.1 (C.2.2.1.trans h3.1.symm) C.2.2.2.1 (C.2.2.2.2.1 _ hq) (C.2.2.2.2.1 _ q975) (C.2.2.2.2.1 _ q161) (C.2.2.2.2.1 _ q976) (by rw [hRm]; exact hf) (by rw [hRm]; exact hl) (by rw [hRm]; exact hc) (by rw [hRm]; exact hs) hd (k H locs ls h1 h2 h3)
theorem GG.mmin (C : gC K X cc nL y0 ret rm0) {i : Nat} {x y : Int32} (hq : Cond.methodLink y0.cls i Lib.Math.min.name ∈ lw_all) (hf : 1 ≤ rm0.frames) (hl : (rest.map fun v => v.category).sum + 13 ≤ rm0.locals) (hc : cs ≤ rm0.cells) (hs : sl_ ≤ rm0.slots) (hd : decode cc pc = .ok (.invokestatic i, 3)) (k : GG K X nL cs sl_ M S (pc + 3) lv (.int (g_min x y) :: rest)) : GG K X nL cs sl_ M S pc lv (.int y :: .int x :: rest) := by
  intro H locs ls h1 h2 h3
  have hRm := C.2.2.2.2.2.2.2.1
  exact va_mmin C.1 C.2.1 (C.2.2.1.trans h3.1.symm) C.2.2.2.1 (C.2.2.2.2.1 _ hq) (C.2.2.2.2.1 _ q674) (C.2.2.2.2.1 _ q161) (C.2.2.2.2.1 _ q675) (by rw [hRm]; exact hf) (by rw [hRm]; exact hl) (by rw [hRm]; exact hc) (by rw [hRm]; exact hs) hd (k H locs ls h1 h2 h3)
theorem GG.mabsl (C : gC K X cc nL y0 ret rm0) {i : Nat} {x : Int64} (hq : Cond.methodLink y0.cls i Lib.MathLoose.abs_long.x ∈ lw_all) (hf : 1 ≤ rm0.frames) (hl : (rest.map fun v => v.category).sum + 13 ≤ rm0.locals) (hc : cs ≤ rm0.cells) (hs : sl_ ≤ rm0.slots) (hd : decode cc pc = .ok (.invokestatic i, 3)) (k : GG K X nL cs sl_ M S (pc + 3) lv (.long (g_absl x) :: rest)) : GG K X nL cs sl_ M S pc lv (.long x :: rest) := by
  intro H locs ls h1 h2 h3
  have hRm := C.2.2.2.2.2.2.2.1
  exact va_mabs_long C.1 C.2.1 (C.2.2.1.trans h3.1.symm) C.2.2.2.1 (C.2.2.2.2.1 _ hq) (C.2.2.2.2.1 _ q2034) (C.2.2.2.2.1 _ q161) (C.2.2.2.2.1 _ q2035) (by rw [hRm]; exact hf) (by rw [hRm]; exact hl) (by rw [hRm]; exact hc) (by rw [hRm]; exact hs) hd (k H locs ls h1 h2 h3)
end GR5
theorem mval_Is {K : gK} {T : MS} {k : Nat} {v : Int32} (h : mkd k = 0) : mval K (msI T k v) k = .int v := by
  unfold mval; rw [h]
  show Value.int (up1 T.1 k v k) = _
  simp [up1]
theorem mval_Ls {K : gK} {T : MS} {k : Nat} {v : Int64} (h : mkd k = 1) : mval K (msL T k v) k = .long v := by
  unfold mval; rw [h]
  show Value.long (up1 T.2.1 k v k) = _
  simp [up1]
section GR7
variable {K : gK} {X : gX} {cc : ByteArray} {nL cs sl_ : Nat} {y0 : MethodName} {ret : Option FieldType} {rm0 : Room} {M : XS} {S : Option MS} {pc : Nat} {lv : List (Nat × Value)} {rest : List Value}
theorem gC.gt (C : gC K X cc nL y0 ret rm0) : gT K X.2.2.2.1 X.2.2.2.1.heap := C.2.2.2.2.2.2.2.2.1
theorem gC.rm (C : gC K X cc nL y0 ret rm0) : X.2.2.1 = rm0 := C.2.2.2.2.2.2.2.1
/-- what a call of a method found above the named class asks -/
theorem gcu (C : gC K X cc nL y0 ret rm0) {Cl : String} {x y : MethodName} {bytes : ByteArray} {maxL index n : Nat} {ry : Option FieldType} {rm : Room}
    (hl : Cond.methodLink y0.cls index x ∈ lw_all) (hsm : Cond.sameMethod x.cls y.cls x.name x.desc ∈ lw_all) (hsel : (Cond.selects Cl x y).before X.2.2.2.2.2.1 X.2.2.2.1 = true) (hin : Cond.instanceMethod y ∈ lw_all) (hini : Cond.initialized y.cls ∈ lw_all) (hcd : Cond.code y bytes maxL ry ∈ lw_all)
    (hyx : y = ⟨y.cls, x.name, x.desc⟩) (hd : y.cls ≠ "java/lang/invoke/MethodHandle" ∧ y.cls ≠ "java/lang/invoke/VarHandle" ∧ (parseMethodDescriptor x.desc).map (fun d => d.parameters.length) = some n) (hR : rm.frames + 1 ≤ rm0.frames ∧ 8 + (maxL + 11) + rm.locals ≤ rm0.locals) :
    va_CU X.2.2.1 X.2.2.2.1 X.2.2.2.2.2.1 y0.cls Cl y.cls index x y bytes maxL ry (ws_ y bytes maxL ry) rm rm.cells rm.slots n := by
  have hts := C.2.2.2.2.1
  have hG := lw_meth hcd
  have hc : Cond.code y bytes maxL ry ∈ ws_ y bytes maxL ry := List.mem_cons_self
  rw [C.rm]
  refine ⟨⟨rfl, rfl, hR.1, hR.2, pay_in hts hG, hc⟩, hts _ hcd, hts _ hini, ⟨hd.1, hd.2.1⟩, fun sig h => ?_, hts _ hl, hts _ hsm, by rw [← hyx]; exact va_Decl.of (hts _ hin) (hts _ hcd), hsel, hts _ hin⟩
  have h2 := hd.2.2
  rw [h] at h2
  exact (Option.some.inj h2).symm
theorem GG.callU (C : gC K X cc nL y0 ret rm0) {Cl : String} {x y : MethodName} {bytes : ByteArray} {maxL index n b : Nat} {ry : Option FieldType} {rm : Room} {As st : List Value} {oc : Option Value} {M' : XS} {S' : Option MS}
    (hrec : ∀ H : Heap, RP K M S H → ∃ cellB : Cell, H[b]? = some cellB ∧ cellB.vm.isStatics = false ∧ X.2.2.2.1.vm.findClass Cl = some cellB.cls)
    (hM : gMet K y bytes maxL ry rm (.ref b :: As) M S oc M' S')
    (hl : Cond.methodLink y0.cls index x ∈ lw_all) (hsm : Cond.sameMethod x.cls y.cls x.name x.desc ∈ lw_all) (hsel : (Cond.selects Cl x y).before X.2.2.2.2.2.1 X.2.2.2.1 = true) (hin : Cond.instanceMethod y ∈ lw_all) (hini : Cond.initialized y.cls ∈ lw_all) (hcd : Cond.code y bytes maxL ry ∈ lw_all) (hyx : y = ⟨y.cls, x.name, x.desc⟩)
    (hdd : y.cls ≠ "java/lang/invoke/MethodHandle" ∧ y.cls ≠ "java/lang/invoke/VarHandle" ∧ (parseMethodDescriptor x.desc).map (fun d => d.parameters.length) = some n)
    (hR : rm.frames + 1 ≤ rm0.frames ∧ 8 + (maxL + 11) + rm.locals ≤ rm0.locals) (hf : cs + rm.cells ≤ rm0.cells ∧ sl_ + rm.slots ≤ rm0.slots) (hn : As.length = n) (hst : st = As.reverse ++ .ref b :: rest) (hW : (rest.map fun v => v.category).sum ≤ 8)
    (hd : decode cc pc = .ok (.invokevirtual index, 3)) (kk : GG K X nL (cs + rm.cells) (sl_ + rm.slots) M' S' (pc + 3) lv (oc.toList ++ rest)) : GG K X nL cs sl_ M S pc lv st := by
  intro H locs ls h1 h2 h3
  exact gcall (va_runU (As := As) (rest := rest) (nL := nL) ⟨C.1, C.2.1, C.2.2.1, C.2.2.2.1, C.2.2.2.2.1⟩ hM (gcu C hl hsm hsel hin hini hcd hyx hdd hR) ⟨gPc_blind, hrec H h1, fun U hU hW => gPc_of C h1 h2 U hU hW⟩ rfl hn h3.1 hst (lv_room hW) hd (by rw [C.rm]; exact hf)) h2 rfl h3 kk
/-- a declared method (abstract) called by an object of a class that has it -/
theorem GG.callA (C : gC K X cc nL y0 ret rm0) {Cl : String} {x y : MethodName} {bytes : ByteArray} {maxL index n b : Nat} {ry : Option FieldType} {rm : Room} {As st : List Value} {oc : Option Value} {M' : XS} {S' : Option MS}
    (hrec : ∀ H : Heap, RP K M S H → ∃ cellB : Cell, H[b]? = some cellB ∧ cellB.vm.isStatics = false ∧ X.2.2.2.1.vm.findClass Cl = some cellB.cls)
    (hM : gMet K y bytes maxL ry rm (.ref b :: As) M S oc M' S')
    (hl : Cond.methodLink y0.cls index x ∈ lw_all) (hsm : Cond.sameMethod x.cls x.cls x.name x.desc ∈ lw_all) (hsel : (Cond.selects Cl x y).before X.2.2.2.2.2.1 X.2.2.2.1 = true) (hin : Cond.instanceMethod y ∈ lw_all) (hini : Cond.initialized y.cls ∈ lw_all) (hcd : Cond.code y bytes maxL ry ∈ lw_all) (hdec : va_Decl X.2.2.2.1 ⟨x.cls, x.name, x.desc⟩)
    (hdd : x.cls ≠ "java/lang/invoke/MethodHandle" ∧ x.cls ≠ "java/lang/invoke/VarHandle" ∧ (parseMethodDescriptor x.desc).map (fun d => d.parameters.length) = some n)
    (hR : rm.frames + 1 ≤ rm0.frames ∧ 8 + (maxL + 11) + rm.locals ≤ rm0.locals) (hf : cs + rm.cells ≤ rm0.cells ∧ sl_ + rm.slots ≤ rm0.slots) (hn : As.length = n) (hst : st = As.reverse ++ .ref b :: rest) (hW : (rest.map fun v => v.category).sum ≤ 8)
    (hd : decode cc pc = .ok (.invokevirtual index, 3)) (kk : GG K X nL (cs + rm.cells) (sl_ + rm.slots) M' S' (pc + 3) lv (oc.toList ++ rest)) : GG K X nL cs sl_ M S pc lv st := by
  intro H locs ls h1 h2 h3
  have hts := C.2.2.2.2.1
  have cu : va_CU X.2.2.1 X.2.2.2.1 X.2.2.2.2.2.1 y0.cls Cl x.cls index x y bytes maxL ry (ws_ y bytes maxL ry) rm rm.cells rm.slots n := by
    rw [C.rm]
    refine ⟨⟨rfl, rfl, hR.1, hR.2, pay_in hts (lw_meth hcd), List.mem_cons_self⟩, hts _ hcd, hts _ hini, ⟨hdd.1, hdd.2.1⟩, fun sig h => ?_, hts _ hl, hts _ hsm, hdec, hsel, hts _ hin⟩
    have h2 := hdd.2.2
    rw [h] at h2
    exact (Option.some.inj h2).symm
  exact gcall (va_runU (As := As) (rest := rest) (nL := nL) ⟨C.1, C.2.1, C.2.2.1, C.2.2.2.1, C.2.2.2.2.1⟩ hM cu ⟨gPc_blind, hrec H h1, fun U hU hW => gPc_of C h1 h2 U hU hW⟩ rfl hn h3.1 hst (lv_room hW) hd (by rw [C.rm]; exact hf)) h2 rfl h3 kk
/-- a nest mate's constructor -/
theorem GG.callIN (C : gC K X cc nL y0 ret rm0) {host : String} {y : MethodName} {bytes : ByteArray} {maxL index n b : Nat} {rm : Room} {As st : List Value} {M' : XS} {S' : Option MS}
    (hM : gMet K y bytes maxL none rm (.ref b :: As) M S none M' S') (hG : GoodIn lw_all (ws_ y bytes maxL none)) (hini : Cond.initialized y.cls ∈ lw_all) (hl : Cond.methodLinkNest y0.cls index y host ∈ lw_tbl) (hin : Cond.instanceMethod y ∈ lw_all) (hy1 : y.name = "<init>")
    (hdd : y.cls ≠ "java/lang/invoke/MethodHandle" ∧ y.cls ≠ "java/lang/invoke/VarHandle" ∧ (parseMethodDescriptor y.desc).map (fun d => d.parameters.length) = some n)
    (hR : rm.frames + 1 ≤ rm0.frames ∧ 8 + (maxL + 11) + rm.locals ≤ rm0.locals) (hf : cs + rm.cells ≤ rm0.cells ∧ sl_ + rm.slots ≤ rm0.slots) (hn : As.length = n) (hst : st = As.reverse ++ .ref b :: rest) (hW : (rest.map fun v => v.category).sum ≤ 8)
    (hd : decode cc pc = .ok (.invokespecial index, 3)) (kk : GG K X nL (cs + rm.cells) (sl_ + rm.slots) M' S' (pc + 3) lv rest) : GG K X nL cs sl_ M S pc lv st := by
  intro H locs ls h1 h2 h3
  exact gcall (va_runIN (As := As) (rest := rest) (nL := nL) ⟨C.1, C.2.1, C.2.2.1, C.2.2.2.1, C.2.2.2.2.1⟩ hM ⟨va_cnB n C.2.2.2.2.1 hG rfl rfl rfl (C.gt.2.1 _ hl rfl) (C.2.2.2.2.1 _ hini) hdd (by rw [C.rm]; exact hR), hy1, C.2.2.2.2.1 _ hin⟩ ⟨gPc_blind, fun U hU hW => gPc_of C h1 h2 U hU hW⟩ rfl hn h3.1 hst (lv_room hW) hd (by rw [C.rm]; exact hf)) h2 rfl h3 kk
theorem GG.objInit (C : gC K X cc nL y0 ret rm0) {i a : Nat} (hl : Cond.methodLink y0.cls i Lib.objectInit ∈ lw_all) (h1 : Cond.instanceMethod Lib.objectInit ∈ lw_all) (h2 : Cond.code Lib.objectInit ⟨#[0xb1]⟩ 1 none ∈ lw_all) (hf : 1 ≤ rm0.frames) (hlo : (rest.map fun v => v.category).sum + 12 ≤ rm0.locals) (hd : decode cc pc = .ok (.invokespecial i, 3)) (kk : GG K X nL cs sl_ M S (pc + 3) lv rest) : GG K X nL cs sl_ M S pc lv (.ref a :: rest) := by
  intro H locs ls q1 q2 q3
  exact W.objInit C.1 C.2.1 C.2.2.2.1 (C.2.2.2.2.1 _ hl) (C.2.2.2.2.1 _ h1) (C.2.2.2.2.1 _ h2) rfl (by rw [C.2.2.1]; exact q3.1) rfl hd (by rw [C.rm]; exact hf) (by rw [C.rm]; show 2 * 0 + _ + 12 ≤ _; omega) (kk H locs ls q1 q2 q3)
/-! casts, texts -/
theorem GG.castS (C : gC K X cc nL y0 ret rm0) {i a ci : Nat} {r : vw_C} (hc : xc M a = ci + 1) (hr : gcl[ci]? = some r) (hl : Cond.classLink y0.cls i r.1 ∈ lw_all) (hd : decode cc pc = .ok (.checkcast i, 3)) (kk : GG K X nL cs sl_ M S (pc + 3) lv (.ref a :: rest)) : GG K X nL cs sl_ M S pc lv (.ref a :: rest) := by
  intro H locs ls h1 h2 h3
  exact va_castS C.1 C.2.1 C.2.2.2.1 (C.2.2.2.2.1 _ hl) (C.kn hr).2 (h1.1.recv C hc hr) hd (kk H locs ls h1 h2 h3)
theorem GG.castA (C : gC K X cc nL y0 ret rm0) {i a : Nat} (t : Nat) {nm : String} (hc : xc M a = 100 + t) (ht : t < 4) (hl : Cond.classLink y0.cls i nm ∈ lw_all) (hnm : nm = "[" ++ (gty t).toString) (hd : decode cc pc = .ok (.checkcast i, 3)) (kk : GG K X nL cs sl_ M S (pc + 3) lv (.ref a :: rest)) : GG K X nL cs sl_ M S pc lv (.ref a :: rest) := by
  intro H locs ls h1 h2 h3
  have hz := h1.1.2.1 a t hc (by omega)
  have hK := C.gt.1.2
  have e : ∀ (t' : Nat) (x : vp_A), t' < 4 → nm = "[" ++ (gty t').toString → (gtys K)[t']? = some (kA K t', gty t') → va_RA X.2.2.2.1 (kA K t') (gty t') = (X.2.2.2.1.vm.findClass ("[" ++ (gty t').toString) = some (kA K t')) → H[a]? = some (vp_cell (kA K t') x) → gW K X H locs cs sl_ (F0 X.2.2.2.2.1 pc ls (.ref a :: rest)) := by
    intro t' x _ e1 e2 e3 e4
    have h5 := (hK t' _ e2).2
    rw [e3] at h5
    exact va_castA C.1 C.2.1 C.2.2.2.1 (C.2.2.2.2.1 _ hl) (va_P1 (D := kD K) (cl := gcl) (q := (a, .inl (kA K t', x))) e4) 0 rfl (by rw [e1]; exact h5) hd (kk H locs ls h1 h2 h3)
  match t, ht with
  | 0, _ => exact e 0 (xn M a, .inl (xi M a)) (by decide) hnm rfl rfl hz
  | 1, _ => exact e 1 (xn M a, .inl (xi M a)) (by decide) hnm rfl rfl hz
  | 2, _ => exact e 2 (xn M a, .inl (xi M a)) (by decide) hnm rfl rfl hz
  | 3, _ => exact e 3 (xn M a, .inr (.inl (xl M a))) (by decide) hnm rfl rfl hz
theorem GG.castN (C : gC K X cc nL y0 ret rm0) {i : Nat} (hd : decode cc pc = .ok (.checkcast i, 3)) (kk : GG K X nL cs sl_ M S (pc + 3) lv (.null :: rest)) : GG K X nL cs sl_ M S pc lv (.null :: rest) := fun H locs ls h1 h2 h3 => lv_castN C.1 C.2.1 hd (kk H locs ls h1 h2 h3)
theorem GG.alen (C : gC K X cc nL y0 ret rm0) {a : Nat} (t : Nat) (hc : xc M a = 100 + t) (ht : t < 4) (hd : decode cc pc = .ok (.arraylength, 1)) (kk : GG K X nL cs sl_ M S (pc + 1) lv (.int (nI (xn M a)) :: rest)) : GG K X nL cs sl_ M S pc lv (.ref a :: rest) := by
  intro H locs ls h1 h2 h3
  have hz := h1.1.2.1 a t hc (by omega)
  have e : ∀ (t' : Nat) (x : vp_A), (gtys K)[t']? = some (kA K t', gty t') → x.1 = xn M a → H[a]? = some (vp_cell (kA K t') x) → gW K X H locs cs sl_ (F0 X.2.2.2.2.1 pc ls (.ref a :: rest)) := by
    intro t' x e2 e3 e4
    exact va_alen C.1 C.2.1 C.gt.1 (va_P1 (D := kD K) (cl := gcl) (q := (a, .inl (kA K t', x))) e4) 0 t' rfl e2 (by rw [e3]; rfl) hd (kk H locs ls h1 h2 h3)
  match t, ht with
  | 0, _ => exact e 0 (xn M a, .inl (xi M a)) rfl rfl hz
  | 1, _ => exact e 1 (xn M a, .inl (xi M a)) rfl rfl hz
  | 2, _ => exact e 2 (xn M a, .inl (xi M a)) rfl rfl hz
  | 3, _ => exact e 3 (xn M a, .inr (.inl (xl M a))) rfl rfl hz
theorem GG.instP (C : gC K X cc nL y0 ret rm0) {i a : Nat} (hc : 1 ≤ xc M a ∧ xc M a ≤ 4) (hl : Cond.classLink y0.cls i "SwapBook$Put" ∈ lw_all) (hd : decode cc pc = .ok (.instanceof i, 3)) (ky : xc M a = 1 → GG K X nL cs sl_ M S (pc + 3) lv (.int (nI 1) :: rest)) (kn : ¬ xc M a = 1 → GG K X nL cs sl_ M S (pc + 3) lv (.int (nI 0) :: rest)) : GG K X nL cs sl_ M S pc lv (.ref a :: rest) := by
  intro H locs ls h1 h2 h3
  have hl' := C.2.2.2.2.1 _ hl
  by_cases h : xc M a = 1
  · have hca : va_Nw (.castable "SwapBook$Put" "SwapBook$Put") X.2.2.2.1 := by
      obtain ⟨hfc, kC, hkC, hkind⟩ := (C.kn (ci := 0) rfl).2
      show (Cond.castable "SwapBook$Put" "SwapBook$Put").before #[] _ = true
      have hfc' : X.2.2.2.1.vm.findClass "SwapBook$Put" = some ((kD K).1 0) := hfc
      simp only [Cond.before, Cond.holds, Cond.value, hfc']
      rw [va_asg]; rfl
    exact va_instY C.1 C.2.1 C.2.2.2.1 hl' hca (h1.1.recv C (ci := 0) h rfl) hd (ky h H locs ls h1 h2 h3)
  · obtain ⟨n1, n2, n3⟩ := C.gt.2.2.2.2.2.2.2
    have h' : xc M a = 2 ∨ xc M a = 3 ∨ xc M a = 4 := by omega
    rcases h' with e | e | e
    · exact va_instNo C.1 C.2.1 C.2.2.2.1 hl' n1 (h1.1.recv C (ci := 1) e rfl) hd (kn h H locs ls h1 h2 h3)
    · exact va_instNo C.1 C.2.1 C.2.2.2.1 hl' n2 (h1.1.recv C (ci := 2) e rfl) hd (kn h H locs ls h1 h2 h3)
    · exact va_instNo C.1 C.2.1 C.2.2.2.1 hl' n3 (h1.1.recv C (ci := 3) e rfl) hd (kn h H locs ls h1 h2 h3)
theorem GG.ldcS (C : gC K X cc nL y0 ret rm0) {i q : Nat} {tx : String} (h : vk_R y0.cls i tx q X.2.2.2.1) (hd : decode cc pc = .ok (.ldc i, 2)) (kk : GG K X nL cs sl_ M S (pc + 2) lv (.ref q :: rest)) : GG K X nL cs sl_ M S pc lv rest := fun H locs ls h1 h2 h3 => va_ldcS C.1 C.2.1 C.2.2.2.1 h hd (kk H locs ls h1 h2 h3)
end GR7
/-! methods that return or throw -/
def gQX (K : gK) (o : Option Value ⊕ Nat) (M' : XS) (S' : Option MS) : Array Value → State → Outcome → State → Prop := fun a st oc t => ∃ v, o = .inl v ∧ gQc K v M' S' a st oc t
def gXX (K : gK) (o : Option Value ⊕ Nat) (M' : XS) (S' : Option MS) : String → Addr → State → State → Prop := fun E q st t => o = .inr q ∧ E = "SwapBook$Wrong" ∧ RP K M' S' t.heap ∧ va_F (gA K) st t
def gMetX (K : gK) (y : MethodName) (cc : ByteArray) (nL : Nat) (ret : Option FieldType) (rm : Room) (args : List Value) (M : XS) (S : Option MS) (o : Option Value ⊕ Nat) (M' : XS) (S' : Option MS) : Prop :=
  vq_Met (kl K) y (ws_ y cc nL ret) rm (va_Pc args (GSt K M S)) (gQX K o M' S') (gXX K o M' S') rm.cells rm.slots (gA K)
def gEX (K : gK) (X : gX) (o : Option Value ⊕ Nat) (M' : XS) (S' : Option MS) (cs sl_ : Nat) : Prop :=
  X.2.2.2.2.2.2.2.2.2 = vq_MQ X.2.2.2.2.2.2.1 (gQX K o M' S') (gXX K o M' S') X.2.2.2.2.2.1 X.2.2.2.1 cs sl_ (gA K) ∧ ∀ x ∈ X.2.2.2.2.2.2.2.2.1.exceptionTable.toList, False
theorem gMetX.of {K : gK} {y : MethodName} {cc : ByteArray} {nL : Nat} {ret : Option FieldType} {rm : Room} {args : List Value} {M M' : XS} {S S' : Option MS} {o : Option Value ⊕ Nat}
    (hy : plainName y.cls = true) (hle : (lg_sl args).length ≤ nL) (h : ∀ X : gX, gC K X cc nL y ret rm → gEX K X o M' S' rm.cells rm.slots → GG K X nL 0 0 M S 0 (lv_args 0 args) []) : gMetX K y cc nL ret rm args M S o M' S' := by
  refine vq_ofW (cc := cc) (maxL := nL) (ret := ret) hy rfl ?_
  intro p e s m args' below meth c s₁ B hml hex hv
  obtain ⟨rfl, hP, hT, hz⟩ := hv
  have hts := atoms_spec (ws := ws_ y cc nL ret) B.pre
  have hts : ∀ w ∈ lw_all, w.before _ s = true := fun w h => hts w (List.mem_cons_of_mem _ h)
  have hl := lv_entry args (n := nL) hle
  rw [lg_entry_eq]
  exact h (p, e, _, s, m, args.toArray, below, meth, c, vq_MQ below (gQX K o M' S') (gXX K o M' S') args.toArray s rm.cells rm.slots (gA K)) ⟨B.exec, B.bytes, hml, findClass_of_methodNamed B.named, hts, B.notSynchronized, B.returns, rfl, hT, hz, (name_of_methodNamed B.named B.method).1⟩ ⟨rfl, hex⟩ s.heap [] _ hP va_S.rf hl
section GR8
variable {K : gK} {X : gX} {cc : ByteArray} {nL cs sl_ : Nat} {y0 : MethodName} {ret : Option FieldType} {rm0 : Room} {M : XS} {S : Option MS} {pc : Nat} {lv : List (Nat × Value)} {rest : List Value}
theorem GG.iretX (C : gC K X cc nL y0 (some .int) rm0) {v : Int32} (E : gEX K X (.inl (some (.int v))) M S cs sl_) (hd : decode cc pc = .ok (.ireturn, 1)) : GG K X nL cs sl_ M S pc lv [.int v] := by
  intro H locs ls h1 h2 h3
  unfold gW; rw [E.1]
  exact vq_ret (W.iret C.1 C.2.1 C.2.2.2.2.2.2.1 (fun t ht hW => ⟨_, rfl, ⟨rfl, by rw [ht]; exact h1⟩, h2.F ht⟩) h2.2.2 hd C.2.2.2.2.2.1)
theorem GG.lretX (C : gC K X cc nL y0 (some .long) rm0) {v : Int64} (E : gEX K X (.inl (some (.long v))) M S cs sl_) (hd : decode cc pc = .ok (.lreturn, 1)) : GG K X nL cs sl_ M S pc lv [.long v] := by
  intro H locs ls h1 h2 h3
  unfold gW; rw [E.1]
  exact vq_ret (W.lret C.1 C.2.1 C.2.2.2.2.2.2.1 (fun t ht hW => ⟨_, rfl, ⟨rfl, by rw [ht]; exact h1⟩, h2.F ht⟩) h2.2.2 hd C.2.2.2.2.2.1)
theorem GG.vretX (C : gC K X cc nL y0 none rm0) (E : gEX K X (.inl none) M S cs sl_) (hd : decode cc pc = .ok (.return_, 1)) : GG K X nL cs sl_ M S pc lv [] := by
  intro H locs ls h1 h2 h3
  unfold gW; rw [E.1]
  exact vq_ret (W.vret C.1 C.2.1 C.2.2.2.2.2.2.1 (fun t ht hW => ⟨_, rfl, ⟨rfl, by rw [ht]; exact h1⟩, h2.F ht⟩) h2.2.2 hd C.2.2.2.2.2.1)
theorem GG.aretX {rt : FieldType} (C : gC K X cc nL y0 (some rt) rm0) (hrt : (∃ n, rt = .object n) ∨ ∃ t, rt = .array t) {v : Nat} (E : gEX K X (.inl (some (.ref v))) M S cs sl_) (hd : decode cc pc = .ok (.areturn, 1)) : GG K X nL cs sl_ M S pc lv [.ref v] := by
  intro H locs ls h1 h2 h3
  unfold gW; rw [E.1]
  exact vq_ret (W.aret C.1 C.2.1 C.2.2.2.2.2.2.1 hrt (Or.inr ⟨v, rfl⟩) (fun t ht hW => ⟨_, rfl, ⟨rfl, by rw [ht]; exact h1⟩, h2.F ht⟩) h2.2.2 hd C.2.2.2.2.2.1)
/-- the Wrong thrown leaves the method -/
theorem gout (C : gC K X cc nL y0 ret rm0) {q : Nat} {cs' sl' : Nat} (E : gEX K X (.inr q) M S cs' sl') (h1c : cs ≤ cs') (h2c : sl_ ≤ sl') (hc : xc M q = 7) {H : Heap} {locs : List Loc} {ls : Array Slot} (h1 : RP K M S H) (h2 : va_S (gA K) X.2.2.2.1.heap H locs) :
    vx_W X.1 (kl K) X.2.1 X.2.2.1 X.2.2.2.1 X.2.2.2.2.1 X.2.2.2.2.2.1 X.2.2.2.2.2.2.1 X.2.2.2.2.2.2.2.1 X.2.2.2.2.2.2.2.2.1 H locs cs sl_ X.2.2.2.2.2.2.2.2.2 (F0 X.2.2.2.2.1 pc ls rest) q := by
  obtain ⟨cell, q1, q2, q3, -⟩ := h1.1.1 q 6 _ hc rfl
  rw [E.1]
  exact vq_out (E := "SwapBook$Wrong") (fun x hx => (E.2 x hx).elim) C.2.2.2.2.2.1 q1 q3 (by rw [q2]; exact (C.kn (ci := 6) rfl).2.1) (fun t ht hW => ⟨rfl, rfl, by rw [ht]; exact h1, h2.F ht⟩) h2.2.2 h1c h2c
theorem GG.athrow (C : gC K X cc nL y0 ret rm0) {q : Nat} {cs' sl' : Nat} (E : gEX K X (.inr q) M S cs' sl') (h1c : cs ≤ cs') (h2c : sl_ ≤ sl') (hc : xc M q = 7) (hd : decode cc pc = .ok (.athrow, 1)) : GG K X nL cs sl_ M S pc lv (.ref q :: rest) := by
  intro H locs ls h1 h2 h3
  exact vx_athrow C.1 C.2.1 hd (gout C E h1c h2c hc h1 h2)
theorem gcallX {H : Heap} {locs : List Loc} {ls : Array Slot} {st0 : List Value} {o : Option Value ⊕ Nat} {M' : XS} {S' : Option MS} {mc ms : Nat} {a : Array Value}
    (hr : vq_Run X.1 (kl K) X.2.1 X.2.2.1 X.2.2.2.1 X.2.2.2.2.1 X.2.2.2.2.2.1 X.2.2.2.2.2.2.1 X.2.2.2.2.2.2.2.1 X.2.2.2.2.2.2.2.2.1 H locs cs sl_ mc ms (F0 X.2.2.2.2.1 pc ls st0) rest (gQX K o M' S' a) (gXX K o M' S') (gA K)) (hS : va_S (gA K) X.2.2.2.1.heap H locs)
    (hl : lv_has ls nL lv) (kk : ∀ oc, o = .inl oc → GG K X nL (cs + mc) (sl_ + ms) M' S' (pc + 3) lv (oc.toList ++ rest))
    (kx : ∀ q, o = .inr q → ∀ (H1 : Heap) (locs1 : List Loc), RP K M' S' H1 → va_S (gA K) X.2.2.2.1.heap H1 locs1 → vx_W X.1 (kl K) X.2.1 X.2.2.1 X.2.2.2.1 X.2.2.2.2.1 X.2.2.2.2.2.1 X.2.2.2.2.2.2.1 X.2.2.2.2.2.2.2.1 X.2.2.2.2.2.2.2.2.1 H1 locs1 (cs + mc) (sl_ + ms) X.2.2.2.2.2.2.2.2.2 (F0 X.2.2.2.2.1 pc ls rest) q) : gW K X H locs cs sl_ (F0 X.2.2.2.2.1 pc ls st0) := by
  intro T hT Y
  have keep : ∀ {st₀ t T' : State} {L : List Loc}, st₀.heap = H → T'.heap = t.heap → va_F (gA K) st₀ t → (∀ q ∈ L, gA K q.base) → va_S (gA K) X.2.2.2.1.heap T'.heap (locs ++ L) := by
    intro st₀ t T' L h0 e1 hF hL
    obtain ⟨hz, hk⟩ := hF
    rw [h0] at hz hk
    exact ⟨Nat.le_trans hS.1 (by rw [e1]; exact hz), fun q h1 h2 => by rw [e1, hk q (Nat.lt_of_lt_of_le h1 hS.1) h2]; exact hS.2.1 q h1 h2, fun q hq => by
      rcases List.mem_append.mp hq with h | h
      · exact hS.2.2 q h
      · exact hL q h⟩
  rcases hr T hT Y with ⟨v, st₀, t, T', L, h0, Y', hL, e1, e2, ⟨v', hv', ⟨hv, hG⟩, hF⟩, st⟩ | ⟨q, st₀, t, T', L, E, ce, h0, Y', hL, e1, e2, ⟨ho, hE, hG, hF⟩, hce, hcv, hcl, st⟩
  · cases hv
    obtain ⟨t2, a1, b1⟩ := kk v hv' T'.heap (locs ++ L) ls (by rw [e1]; exact hG) (keep h0 e1 hF hL) hl T' rfl Y'
    exact ⟨t2, st t2 a1, b1⟩
  · obtain ⟨t2, a1, b1⟩ := kx q ho T'.heap (locs ++ L) (by rw [e1]; exact hG) (keep h0 e1 hF hL) T' rfl Y'
    exact ⟨t2, st.trans a1, b1⟩
theorem GG.callXl (C : gC K X cc nL y0 ret rm0) {ci : Nat} {r : vw_C} {y : MethodName} {bytes : ByteArray} {maxL index n b : Nat} {ry : Option FieldType} {rm : Room} {As st : List Value} {oc : Option Value} {M' : XS} {S' : Option MS}
    (hc : xc M b = ci + 1) (hr : gcl[ci]? = some r)
    (hM : gMetX K y bytes maxL ry rm (.ref b :: As) M S (.inl oc) M' S') (hG : GoodIn lw_all (wsV y0.cls index r.1 y (ws_ y bytes maxL ry)))
    (hdd : y.cls = r.1 ∧ y.cls ≠ "java/lang/invoke/MethodHandle" ∧ y.cls ≠ "java/lang/invoke/VarHandle" ∧ (parseMethodDescriptor y.desc).map (fun d => d.parameters.length) = some n)
    (hR : rm.frames + 1 ≤ rm0.frames ∧ 8 + (maxL + 11) + rm.locals ≤ rm0.locals) (hf : cs + rm.cells ≤ rm0.cells ∧ sl_ + rm.slots ≤ rm0.slots) (hn : As.length = n) (hst : st = As.reverse ++ .ref b :: rest) (hW : (rest.map fun v => v.category).sum ≤ 8)
    (hd : decode cc pc = .ok (.invokevirtual index, 3)) (kk : GG K X nL (cs + rm.cells) (sl_ + rm.slots) M' S' (pc + 3) lv (oc.toList ++ rest)) : GG K X nL cs sl_ M S pc lv st := by
  intro H locs ls h1 h2 h3
  have hR' : rm.frames + 1 ≤ X.2.2.1.frames ∧ 8 + (maxL + 11) + rm.locals ≤ X.2.2.1.locals := by rw [C.rm]; exact hR
  refine gcallX (lv := lv) (nL := nL) (vq_runV (As := As) (rest := rest) (nL := nL) ⟨C.1, C.2.1, C.2.2.1, C.2.2.2.1, C.2.2.2.2.1⟩ hM (cwV n C.2.2.2.2.1 hG rfl rfl rfl hdd hR') ⟨gPc_blind, h1.1.recv C hc hr, fun U hU hW => gPc_of C h1 h2 U hU hW⟩ rfl hn h3.1 hst (lv_room hW) hd (by rw [C.rm]; exact hf)) h2 h3 (fun oc' e => ?_) (fun q e => by cases e)
  cases e
  exact kk
theorem GG.callXr (C : gC K X cc nL y0 ret rm0) {ci : Nat} {r : vw_C} {y : MethodName} {bytes : ByteArray} {maxL index n b q : Nat} {ry : Option FieldType} {rm : Room} {As st : List Value} {M' : XS} {S' : Option MS} {cs' sl' : Nat}
    (hc : xc M b = ci + 1) (hr : gcl[ci]? = some r)
    (hM : gMetX K y bytes maxL ry rm (.ref b :: As) M S (.inr q) M' S') (hG : GoodIn lw_all (wsV y0.cls index r.1 y (ws_ y bytes maxL ry)))
    (hdd : y.cls = r.1 ∧ y.cls ≠ "java/lang/invoke/MethodHandle" ∧ y.cls ≠ "java/lang/invoke/VarHandle" ∧ (parseMethodDescriptor y.desc).map (fun d => d.parameters.length) = some n)
    (hR : rm.frames + 1 ≤ rm0.frames ∧ 8 + (maxL + 11) + rm.locals ≤ rm0.locals) (hf : cs + rm.cells ≤ rm0.cells ∧ sl_ + rm.slots ≤ rm0.slots) (hn : As.length = n) (hst : st = As.reverse ++ .ref b :: rest) (hW : (rest.map fun v => v.category).sum ≤ 8)
    (hd : decode cc pc = .ok (.invokevirtual index, 3)) (hq : xc M' q = 7) (E : gEX K X (.inr q) M' S' cs' sl') (hcs : cs + rm.cells ≤ cs' ∧ sl_ + rm.slots ≤ sl') : GG K X nL cs sl_ M S pc lv st := by
  intro H locs ls h1 h2 h3
  have hR' : rm.frames + 1 ≤ X.2.2.1.frames ∧ 8 + (maxL + 11) + rm.locals ≤ X.2.2.1.locals := by rw [C.rm]; exact hR
  refine gcallX (lv := lv) (nL := nL) (vq_runV (As := As) (rest := rest) (nL := nL) ⟨C.1, C.2.1, C.2.2.1, C.2.2.2.1, C.2.2.2.2.1⟩ hM (cwV n C.2.2.2.2.1 hG rfl rfl rfl hdd hR') ⟨gPc_blind, h1.1.recv C hc hr, fun U hU hW => gPc_of C h1 h2 U hU hW⟩ rfl hn h3.1 hst (lv_room hW) hd (by rw [C.rm]; exact hf)) h2 h3 (fun oc' e => by cases e) (fun q' e H1 locs1 g1 g2 => ?_)
  cases e
  exact gout C E hcs.1 hcs.2 hq g1 g2
theorem GG.callUl (C : gC K X cc nL y0 ret rm0) {ci : Nat} {r : vw_C} {x y : MethodName} {bytes : ByteArray} {maxL index n b : Nat} {ry : Option FieldType} {rm : Room} {As st : List Value} {oc : Option Value} {M' : XS} {S' : Option MS}
    (hc : xc M b = ci + 1) (hr : gcl[ci]? = some r)
    (hM : gMetX K y bytes maxL ry rm (.ref b :: As) M S (.inl oc) M' S')
    (hl : Cond.methodLink y0.cls index x ∈ lw_all) (hsm : Cond.sameMethod x.cls y.cls x.name x.desc ∈ lw_all) (hsel : (Cond.selects r.1 x y).before X.2.2.2.2.2.1 X.2.2.2.1 = true) (hin : Cond.instanceMethod y ∈ lw_all) (hini : Cond.initialized y.cls ∈ lw_all) (hcd : Cond.code y bytes maxL ry ∈ lw_all) (hyx : y = ⟨y.cls, x.name, x.desc⟩)
    (hdd : y.cls ≠ "java/lang/invoke/MethodHandle" ∧ y.cls ≠ "java/lang/invoke/VarHandle" ∧ (parseMethodDescriptor x.desc).map (fun d => d.parameters.length) = some n)
    (hR : rm.frames + 1 ≤ rm0.frames ∧ 8 + (maxL + 11) + rm.locals ≤ rm0.locals) (hf : cs + rm.cells ≤ rm0.cells ∧ sl_ + rm.slots ≤ rm0.slots) (hn : As.length = n) (hst : st = As.reverse ++ .ref b :: rest) (hW : (rest.map fun v => v.category).sum ≤ 8)
    (hd : decode cc pc = .ok (.invokevirtual index, 3)) (kk : GG K X nL (cs + rm.cells) (sl_ + rm.slots) M' S' (pc + 3) lv (oc.toList ++ rest)) : GG K X nL cs sl_ M S pc lv st := by
  intro H locs ls h1 h2 h3
  refine gcallX (lv := lv) (nL := nL) (vq_runU (As := As) (rest := rest) (nL := nL) ⟨C.1, C.2.1, C.2.2.1, C.2.2.2.1, C.2.2.2.2.1⟩ hM (gcu C hl hsm hsel hin hini hcd hyx hdd hR) ⟨gPc_blind, h1.1.recv C hc hr, fun U hU hW => gPc_of C h1 h2 U hU hW⟩ rfl hn h3.1 hst (lv_room hW) hd (by rw [C.rm]; exact hf)) h2 h3 (fun oc' e => ?_) (fun q e => by cases e)
  cases e
  exact kk
theorem GG.callUr (C : gC K X cc nL y0 ret rm0) {ci : Nat} {r : vw_C} {x y : MethodName} {bytes : ByteArray} {maxL index n b q : Nat} {ry : Option FieldType} {rm : Room} {As st : List Value} {M' : XS} {S' : Option MS} {cs' sl' : Nat}
    (hc : xc M b = ci + 1) (hr : gcl[ci]? = some r)
    (hM : gMetX K y bytes maxL ry rm (.ref b :: As) M S (.inr q) M' S')
    (hl : Cond.methodLink y0.cls index x ∈ lw_all) (hsm : Cond.sameMethod x.cls y.cls x.name x.desc ∈ lw_all) (hsel : (Cond.selects r.1 x y).before X.2.2.2.2.2.1 X.2.2.2.1 = true) (hin : Cond.instanceMethod y ∈ lw_all) (hini : Cond.initialized y.cls ∈ lw_all) (hcd : Cond.code y bytes maxL ry ∈ lw_all) (hyx : y = ⟨y.cls, x.name, x.desc⟩)
    (hdd : y.cls ≠ "java/lang/invoke/MethodHandle" ∧ y.cls ≠ "java/lang/invoke/VarHandle" ∧ (parseMethodDescriptor x.desc).map (fun d => d.parameters.length) = some n)
    (hR : rm.frames + 1 ≤ rm0.frames ∧ 8 + (maxL + 11) + rm.locals ≤ rm0.locals) (hf : cs + rm.cells ≤ rm0.cells ∧ sl_ + rm.slots ≤ rm0.slots) (hn : As.length = n) (hst : st = As.reverse ++ .ref b :: rest) (hW : (rest.map fun v => v.category).sum ≤ 8)
    (hd : decode cc pc = .ok (.invokevirtual index, 3)) (hq : xc M' q = 7) (E : gEX K X (.inr q) M' S' cs' sl') (hcs : cs + rm.cells ≤ cs' ∧ sl_ + rm.slots ≤ sl') : GG K X nL cs sl_ M S pc lv st := by
  intro H locs ls h1 h2 h3
  refine gcallX (lv := lv) (nL := nL) (vq_runU (As := As) (rest := rest) (nL := nL) ⟨C.1, C.2.1, C.2.2.1, C.2.2.2.1, C.2.2.2.2.1⟩ hM (gcu C hl hsm hsel hin hini hcd hyx hdd hR) ⟨gPc_blind, h1.1.recv C hc hr, fun U hU hW => gPc_of C h1 h2 U hU hW⟩ rfl hn h3.1 hst (lv_room hW) hd (by rw [C.rm]; exact hf)) h2 h3 (fun oc' e => by cases e) (fun q' e H1 locs1 g1 g2 => ?_)
  cases e
  exact gout C E hcs.1 hcs.2 hq g1 g2
end GR8
/-! new cells -/
def kdv (k : Nat) : Value := match k with
  | 0 => .int 0
  | 1 => .long 0
  | _ => .null
theorem gdef {ci : Nat} {r : vw_C} (h : gcl[ci]? = some r) : ∀ k, k < r.2.2 → kdv (fkd (fb ci + k)) = defaultValue (gtyf ci k) :=
  gcl_cases (P := fun ci r => ∀ k, k < r.2.2 → kdv (fkd (fb ci + k)) = defaultValue (gtyf ci k)) (by decide +kernel) (by decide +kernel) (by decide +kernel) (by decide +kernel) (by decide +kernel) (by decide +kernel) (by decide +kernel) (by decide +kernel) (by decide +kernel) (by decide +kernel) (by decide +kernel) (by decide +kernel) h
theorem fval_fresh {K : gK} {M : XS} {f a : Nat} (h : xI M f a = 0 ∧ xL M f a = 0 ∧ xR M f a = none) : fval K M f a = kdv (fkd f) := by
  unfold fval kdv
  rw [h.1, h.2.1, h.2.2]
  rcases fkd f with _ | _ | _ | n <;> rfl
theorem up1_ne {α : Type} {g : Nat → α} {a y : Nat} {v : α} (h : y ≠ a) : up1 g a v y = g y := by unfold up1; rw [if_neg h]
theorem up1_eq {α : Type} {g : Nat → α} {a : Nat} {v : α} : up1 g a v a = v := by simp [up1]
theorem RX.new {K : gK} {M : XS} {H H1 : Heap} {c n : Nat} (h : RX K M H) (hz : kz K ≤ H.size) (hk : c ≠ 0) (e1 : H1.size = H.size + 1) (e2 : ∀ q : Nat, q < H.size → H1[q]? = H[q]?)
    (ho : ∀ (ci : Nat) (r : vw_C), c = ci + 1 → gcl[ci]? = some r → t_OB H.size ((kD K).1 ci) r.2.2 ((kD K).2 ci) H1 (fun k => fval K M (fb ci + k) H.size))
    (ha : ∀ t : Nat, c = 100 + t → t < 8 → H1[H.size]? = some (arrV (kA K t) n (fun j => aval M t H.size j))) : RX K (nw M c n) H1 := by
  have ez : xz M = H.size := h.2.2.2.1
  have hcn : ∀ b, b ≠ H.size → xc (nw M c n) b = xc M b := fun b hb => up1_ne (by show b ≠ xz M; rw [ez]; exact hb)
  have hcz : xc (nw M c n) H.size = c := by show up1 (xc M) (xz M) c H.size = c; rw [ez]; exact up1_eq
  refine ⟨?_, ?_, ?_, ?_, ?_⟩
  · intro a ci r hc hr
    by_cases hb : a = H.size
    · subst hb
      rw [hcz] at hc
      exact (ho ci r hc hr).to (fun _ _ => rfl)
    · rw [hcn a hb] at hc
      have hl : a < H.size := by rw [← ez]; exact h.lt (by omega)
      exact ((h.1 a ci r hc hr).kept (e2 a hl)).to (fun _ _ => rfl)
  · intro a t hc ht
    by_cases hb : a = H.size
    · subst hb
      rw [hcz] at hc
      rw [ha t hc ht]
      have e : xn (nw M c n) H.size = n := by show up1 (xn M) (xz M) n H.size = n; rw [ez]; exact up1_eq
      rw [e]; rfl
    · rw [hcn a hb] at hc
      have hl : a < H.size := by rw [← ez]; exact h.lt (by omega)
      have e : xn (nw M c n) a = xn M a := up1_ne (by show a ≠ xz M; rw [ez]; exact hb)
      rw [e2 a hl, h.2.1 a t hc ht, e]; rfl
  · intro a hc
    by_cases hb : a = H.size
    · subst hb; exact hz
    · rw [hcn a hb] at hc; exact h.2.2.1 a hc
  · show xz M + 1 = _
    rw [ez, e1]
  · intro a hb
    have hb' : xz M + 1 ≤ a := hb
    have hne : a ≠ H.size := by omega
    obtain ⟨z1, z2⟩ := h.2.2.2.2 a (by omega)
    exact ⟨by rw [hcn a hne]; exact z1, z2⟩
theorem RP.new {K : gK} {M : XS} {S : Option MS} {H H1 : Heap} {c n : Nat} (h : RP K M S H) (h1 : RX K (nw M c n) H1) (e2 : ∀ q : Nat, q < H.size → H1[q]? = H[q]?) : RP K (nw M c n) S H1 := by
  refine ⟨h1, fun T hT => ?_⟩
  obtain ⟨g1, g2⟩ := h.2 T hT
  have ez : xz M = H.size := h.1.2.2.2.1
  have l1 : kh K < H.size := by obtain ⟨cell, q, -⟩ := g1.1; exact (Array.getElem?_eq_some_iff.mp q).1
  have l2 : ∀ k, mln k ≠ 0 → km K k < H.size := fun k hk => (Array.getElem?_eq_some_iff.mp (g1.2.1 k hk)).1
  refine ⟨g1.kept fun q hq => e2 q ?_, ?_, ?_⟩
  · rcases hq with e | ⟨k, hk, e⟩
    · rw [e]; exact l1
    · rw [e]; exact l2 k hk
  · show up1 (xc M) (xz M) c (kh K) = 0
    rw [up1_ne (by omega)]; exact g2.1
  · intro k hk
    show up1 (xc M) (xz M) c (km K k) = 0
    have := l2 k hk
    rw [up1_ne (by omega)]; exact g2.2 k hk
def scp (M : XS) (a0 a1 sp dp n : Nat) : XS := (M.1, M.2.1, M.2.2.1, (fun x y => if x = a1 then va_cpy (xi M a0) (xi M a1) sp dp n y else xi M x y), M.2.2.2.2)
abbrev xicp (M : XS) (a0 : Nat) (sp : Int32) (a1 : Nat) (dp n : Int32) : Option XS := if (xc M a0 = 100 ∧ xc M a1 = 100) ∧ ¬ sp < 0 ∧ ¬ dp < 0 ∧ ¬ n < 0 ∧ sp.toNatClampNeg + n.toNatClampNeg ≤ xn M a0 ∧ dp.toNatClampNeg + n.toNatClampNeg ≤ xn M a1 then some (scp M a0 a1 sp.toNatClampNeg dp.toNatClampNeg n.toNatClampNeg) else none
theorem sameA_cp {K : gK} {M : XS} {a0 a1 sp dp n : Nat} : sameA K M (scp M a0 a1 sp dp n) a1 := by
  refine ⟨rfl, rfl, rfl, fval_eq rfl rfl rfl, ?_, ?_⟩
  · intro t b i h
    have e : xi (scp M a0 a1 sp dp n) b i = xi M b i := if_neg h
    unfold aval; rw [e]; rfl
  · exact fun b g h => ⟨rfl, rfl, rfl, if_neg h, rfl, rfl⟩
section GR9
variable {K : gK} {X : gX} {cc : ByteArray} {nL cs sl_ : Nat} {y0 : MethodName} {ret : Option FieldType} {rm0 : Room} {M : XS} {S : Option MS} {pc : Nat} {lv : List (Nat × Value)} {rest : List Value}
theorem GG.topx {x : Nat} (k : ∀ y : Nat, y = x → GG K X nL cs sl_ M S pc lv (.ref y :: rest)) : GG K X nL cs sl_ M S pc lv (.ref x :: rest) := k x rfl
theorem gC.kz (C : gC K X cc nL y0 ret rm0) : kz K ≤ X.2.2.2.1.heap.size := C.2.2.2.2.2.2.2.2.2.1
theorem GG.new (C : gC K X cc nL y0 ret rm0) {i ci : Nat} {r : vw_C} (hr : gcl[ci]? = some r) (hcl : Cond.classLink y0.cls i r.1 ∈ lw_all) (hins : Cond.instantiable r.1 r.2.2 ∈ lw_all) (hini : Cond.initialized r.1 ∈ lw_all) (h1c : cs + 1 ≤ rm0.cells) (h2c : sl_ + r.2.2 ≤ rm0.slots) (hd : decode cc pc = .ok (.new i, 3))
    (kk : GG K X nL (cs + 1) (sl_ + r.2.2) (nw M (ci + 1) 0) S (pc + 3) lv (.ref (xz M) :: rest)) : GG K X nL cs sl_ M S pc lv rest := by
  intro H locs ls h1 h2 h3
  have hKn := C.kn hr
  refine W.newcK C.1 C.2.1 C.2.2.2.1 (C.2.2.2.2.1 _ hcl) (C.2.2.2.2.1 _ hins) (C.2.2.2.2.1 _ hini) rfl hd (by rw [C.rm]; exact h1c) (by rw [C.rm]; exact h2c) hKn.2.1 rfl fun H1 kC hkC e1 z1 o1 => ?_
  have ez : xz M = H.size := h1.1.2.2.2.1
  have hzs : Jvm.Pilot.CSwapBookLaw_law_r9198_73efc3.kz K ≤ H.size := Nat.le_trans C.kz h2.1
  have hob := u_born (gtyf ci) C.2.2.2.2.1 (gin hr) hKn hkC e1 (gtyok hr)
  have hX : RX K (nw M (ci + 1) 0) H1 := h1.1.new hzs (by omega) z1 o1 (fun ci' r' e hr' => by
    have : ci' = ci := by omega
    subst this
    have : r' = r := Option.some.inj (hr'.symm.trans hr)
    subst this
    refine hob.to (fun k hk => ?_)
    obtain ⟨z2, z3⟩ := h1.1.2.2.2.2 H.size (by omega)
    have := z3 (fb ci' + k)
    rw [fval_fresh ⟨this.1, this.2.1, this.2.2.1⟩]
    exact (gdef hr k hk).symm) (fun t e ht => by have := gcl_lt hr; omega)
  have kk2 := kk H1 locs ls (h1.new hX o1) ⟨Nat.le_trans h2.1 (by omega), fun x g1 g2 => (o1 x (Nat.lt_of_lt_of_le g1 h2.1)).trans (h2.2.1 x g1 g2), h2.2.2⟩ h3
  rw [ez] at kk2
  exact kk2
theorem GG.newA (C : gC K X cc nL y0 ret rm0) (t : Nat) (ht : t < 4) {atype : ArrayType} (hty : newarray.typeOf atype = gty t) (harr : Cond.arrayClass (gty t) ∈ lw_all) {n : Int32} {N : Nat} (hn : ¬ n < 0) (hN : n.toNatClampNeg = N) (hb : N * componentBytes (gty t) ≤ 536870912) (h1c : cs + 1 ≤ rm0.cells) (h2c : sl_ + N ≤ rm0.slots) (hd : decode cc pc = .ok (.newarray atype, 2))
    (kk : GG K X nL (cs + 1) (sl_ + N) (nw M (100 + t) N) S (pc + 2) lv (.ref (xz M) :: rest)) : GG K X nL cs sl_ M S pc lv (.int n :: rest) := by
  intro H locs ls h1 h2 h3
  refine va_newaK C.1 C.2.1 (by rw [hty]; exact C.2.2.2.2.1 _ harr) rfl hd rfl hn hN (by rw [hty]; exact hb) (by rw [C.rm]; exact h1c) (by rw [C.rm]; exact h2c) rfl fun H1 cA e1 z1 o1 hAr hNm => ?_
  have ez : xz M = H.size := h1.1.2.2.2.1
  have hzs : Jvm.Pilot.CSwapBookLaw_law_r9198_73efc3.kz K ≤ H.size := Nat.le_trans C.kz h2.1
  rw [hty] at e1 hNm
  have hK := C.gt.1.2
  obtain ⟨z2, z3⟩ := h1.1.2.2.2.2 H.size (by omega)
  have hfin : cA = kA K t ∧ ∀ j, aval M t H.size j = defaultValue (gty t) := by
    have e : ∀ t', (gtys K)[t']? = some (kA K t', gty t') → va_RA X.2.2.2.1 (kA K t') (gty t') = (X.2.2.2.1.vm.findClass ("[" ++ (gty t').toString) = some (kA K t')) → X.2.2.2.1.vm.findClass ("[" ++ (gty t').toString) = some cA → cA = kA K t' := by
      intro t' e2 e3 e4
      have h5 := (hK t' _ e2).2
      rw [e3] at h5
      exact Option.some.inj (e4.symm.trans h5)
    match t, ht with
    | 0, _ => exact ⟨e 0 rfl rfl hNm, fun j => by show Value.int _ = _; rw [(z3 j).2.2.2.1]; rfl⟩
    | 1, _ => exact ⟨e 1 rfl rfl hNm, fun j => by show Value.int _ = _; rw [(z3 j).2.2.2.1]; rfl⟩
    | 2, _ => exact ⟨e 2 rfl rfl hNm, fun j => by show Value.int _ = _; rw [(z3 j).2.2.2.1]; rfl⟩
    | 3, _ => exact ⟨e 3 rfl rfl hNm, fun j => by show Value.long _ = _; rw [(z3 j).2.2.2.2.1]; rfl⟩
  have hX : RX K (nw M (100 + t) N) H1 := h1.1.new hzs (by omega) z1 o1 (fun ci r e hr => by have := gcl_lt hr; omega) (fun t' e ht' => by
    have : t' = t := by omega
    subst this
    rw [e1, hfin.1]
    congr 2
    funext j
    exact (hfin.2 j).symm)
  have kk2 := kk H1 locs ls (h1.new hX o1) ⟨Nat.le_trans h2.1 (by omega), fun x g1 g2 => (o1 x (Nat.lt_of_lt_of_le g1 h2.1)).trans (h2.2.1 x g1 g2), h2.2.2⟩ h3
  rw [ez] at kk2
  exact kk2
theorem GG.newR (C : gC K X cc nL y0 ret rm0) (t : Nat) {i : Nat} {Cn : String} (htt : (gtys K)[4 + t]? = some (kA K (4 + t), .object Cn)) (hav : ∀ (a j : Nat), aval M (4 + t) a j = va_rf (xr M a j)) (h8 : 4 + t < 8) (hcl : Cond.classLink y0.cls i Cn ∈ lw_all) (hov : Cond.arrayOver (.object Cn) ∈ lw_tbl) {n : Int32} {N : Nat} (hn : ¬ n < 0) (hN : n.toNatClampNeg = N) (hb : N * 4 ≤ 536870912) (h1c : cs + 1 ≤ rm0.cells) (h2c : sl_ + N ≤ rm0.slots) (hd : decode cc pc = .ok (.anewarray i, 3))
    (kk : GG K X nL (cs + 1) (sl_ + N) (nw M (100 + (4 + t)) N) S (pc + 3) lv (.ref (xz M) :: rest)) : GG K X nL cs sl_ M S pc lv (.int n :: rest) := by
  intro H locs ls h1 h2 h3
  subst hN
  refine W.anew C.1 C.2.1 C.2.2.2.1 (C.2.2.2.2.1 _ hcl) (va_AO.use (C.gt.2.1 _ hov rfl)) rfl hd rfl hn hb (by rw [C.rm]; exact h1c) (by rw [C.rm]; exact h2c) fun cA kA' comp f1 f2 f3 f4 => ?_
  generalize hH1 : H.push ({ cls := cA, slots := Array.replicate n.toNatClampNeg .null, vm := .none } : Cell) = H1
  have z1 : H1.size = H.size + 1 := by rw [← hH1, Array.size_push]
  have e1 : H1[H.size]? = some (arrV cA n.toNatClampNeg (fun _ => .null)) := by rw [← hH1, Array.getElem?_push_size, ← arrV_new]
  have o1 : ∀ q : Nat, q < H.size → H1[q]? = H[q]? := fun q hq => by rw [← hH1, Array.getElem?_push, if_neg (Nat.ne_of_lt hq)]
  have ez : xz M = H.size := h1.1.2.2.2.1
  have hzs : Jvm.Pilot.CSwapBookLaw_law_r9198_73efc3.kz K ≤ H.size := Nat.le_trans C.kz h2.1
  obtain ⟨z2, z3⟩ := h1.1.2.2.2.2 H.size (by omega)
  obtain ⟨kA2, comp2, g1, g2, g3, g4⟩ := (C.gt.1.2 _ _ htt).2
  have ecA : cA = kA K (4 + t) := Option.some.inj (f1.symm.trans g4)
  have hX : RX K (nw M (100 + (4 + t)) n.toNatClampNeg) H1 := h1.1.new hzs (by omega) z1 o1 (fun ci r e hr => by have := gcl_lt hr; omega) (fun t' e ht' => by
    have : t' = 4 + t := by omega
    subst this
    rw [e1, ecA]
    congr 2
    funext j
    rw [hav, (z3 j).2.2.2.2.2]; rfl)
  have kk2 := kk H1 locs ls (h1.new hX o1) ⟨Nat.le_trans h2.1 (by omega), fun x g1 g2 => (o1 x (Nat.lt_of_lt_of_le g1 h2.1)).trans (h2.2.1 x g1 g2), h2.2.2⟩ h3
  rw [ez] at kk2
  exact kk2
/-- an object set in a row of references -/
theorem GG.aast (C : gC K X cc nL y0 ret rm0) (t : Nat) {a v ci : Nat} {i : Int32} {r : vw_C} {M' : XS} {E : String} (h : xrst M (4 + t) a i v = some M') (htt : (gtys K)[4 + t]? = some (kA K (4 + t), .object E)) (hav : ∀ (M : XS) (a j : Nat), aval M (4 + t) a j = va_rf (xr M a j)) (h8 : 4 + t < 8) (hc : xc M v = ci + 1) (hr : gcl[ci]? = some r)
    (hasg : ∀ comp c0 : ClassId, X.2.2.2.1.vm.findClass E = some comp → X.2.2.2.1.vm.findClass r.1 = some c0 → X.2.2.2.1.vm.assignable c0 comp = true) (hd : decode cc pc = .ok (.aastore, 1)) (kk : GG K X nL cs sl_ M' S (pc + 1) lv rest) : GG K X nL cs sl_ M S pc lv (.ref v :: .int i :: .ref a :: rest) := by
  intro H locs ls h1 h2 h3
  obtain ⟨⟨hca, hin⟩, hv⟩ := gd_some h
  cases hv
  have hz := h1.1.2.1 a (4 + t) hca h8
  obtain ⟨kA2, comp2, g1, g2, g3, g4⟩ := (C.gt.1.2 _ _ htt).2
  obtain ⟨kE, hkE, -⟩ := Vm.findClass_spec g3
  obtain ⟨cellV, q1, q2, q3⟩ := h1.1.recv C hc hr
  obtain ⟨kC, hkC, -⟩ := Vm.findClass_spec q3
  have hlt : i.toNatClampNeg < xn M a := Nat.not_le.mp fun q => hin (Or.inr q)
  refine W.aast C.1 C.2.1 hz (fun q h => by cases h) (fun h => by cases h) g1 g2 rfl hkE ⟨fun q => hin (Or.inl q), by rw [arrV_size]; exact hlt⟩ q1 (fun q h => by rw [h] at q2; cases q2) hkC (hasg _ _ g3 q3) rfl rfl hd fun H1 e z oq => ?_
  refine kk H1 _ ls (h1.stepX (by omega) rfl (h1.1.arr hca h8 sameA_r (by
    rw [e, arrV_store]; congr 2; funext q
    rw [hav]
    by_cases hq : q = i.toNatClampNeg
    · subst hq
      show updV _ _ _ _ = va_rf (up2 _ _ _ _ _ _)
      rw [up2_eq]; simp [updV, va_rf]
    · show updV _ _ _ _ = va_rf (up2 _ _ _ _ _ _)
      rw [up2_ne (Or.inr hq)]; simp [updV, hq]; exact hav M a q) z oq) oq) (h2.put z oq (h1.1.2.2.1 a (by omega))) h3
theorem GG.acopy (C : gC K X cc nL y0 ret rm0) {i a0 a1 : Nat} {sp dp n : Int32} {M' : XS} (h : xicp M a0 sp a1 dp n = some M') (hlk : Cond.methodLink y0.cls i arraycopyName ∈ lw_all) (hfr : 1 ≤ rm0.frames) (hlo : (rest.map fun v => v.category).sum + (nativeFrameWords "java/lang/System" "arraycopy" 5 + 11) ≤ rm0.locals) (hd : decode cc pc = .ok (.invokestatic i, 3)) (kk : GG K X nL cs sl_ M' S (pc + 3) lv rest) :
    GG K X nL cs sl_ M S pc lv (.int n :: .int dp :: .ref a1 :: .int sp :: .ref a0 :: rest) := by
  intro H locs ls g1 g2 g3
  obtain ⟨⟨⟨hc0, hc1⟩, h1, h2, h3, h4, h5⟩, hv⟩ := gd_some h
  cases hv
  have nn : ∀ z : Int32, ¬ z < 0 → z.toInt = (z.toNatClampNeg : Int) := by
    intro z hz
    have hz0 : (0 : Int) ≤ z.toInt := by
      have := Int32.not_lt.mp hz
      simpa using Int32.le_iff_toInt_le.mp this
    show z.toInt = ((z.toInt.toNat : Nat) : Int)
    omega
  have q0 : H[a0]? = some (vp_cell (kA K 0) (xn M a0, .inl (xi M a0))) := g1.1.2.1 a0 0 hc0 (by decide)
  have q1 : H[a1]? = some (vp_cell (kA K 0) (xn M a1, .inl (xi M a1))) := g1.1.2.1 a1 0 hc1 (by decide)
  have hAr : ArrOfT X.2.2.2.1 (kA K 0) .int := (C.gt.1.2 0 _ rfl).1
  obtain ⟨-, k0, hk0, cm0, hkk0⟩ := hAr (xn M a0) (fun j => .int (xi M a0 j))
  obtain ⟨-, k1, hk1, cm1, hkk1⟩ := hAr (xn M a1) (fun j => .int (xi M a1 j))
  intro T hT Y
  obtain ⟨vm', Y', step⟩ := Y.arraycopy C.1 C.2.2.2.1 (C.2.2.2.2.1 _ hlk) (C.2.2.2.2.1 _ q628) (C.2.2.2.2.1 _ q627) (C.2.2.2.2.1 _ q160) (src := a0) (dst := a1) (cs := vp_cell (kA K 0) (xn M a0, .inl (xi M a0))) (cd := vp_cell (kA K 0) (xn M a1, .inl (xi M a1))) (srcPos := sp) (destPos := dp) (n := n) (by rw [hT]; exact q0) (by rw [hT]; exact q1)
    (fun _ h => by cases h) (fun _ h => by cases h) (fun h => by cases h) (fun h => by cases h) hk0 hk1 hkk0 hkk1 (by decide) h1 h2 h3
    (by rw [nn sp h1, nn n h3]; show ¬ _ > ((arrV (kA K 0) (xn M a0) (fun j => .int (xi M a0 j))).slots.size : Int); rw [arrV_size]; omega)
    (by rw [nn dp h2, nn n h3]; show ¬ _ > ((arrV (kA K 0) (xn M a1) (fun j => .int (xi M a1 j))).slots.size : Int); rw [arrV_size]; omega)
    (fun vm₁ _ i hi => by
      have e : (vp_cell (kA K 0) (xn M a0, .inl (xi M a0))).slots.getD (sp.toNatClampNeg + i) .null = .int (xi M a0 (sp.toNatClampNeg + i)) := by
        show (arrV (kA K 0) (xn M a0) (fun j => .int (xi M a0 j))).slots.getD _ _ = _
        rw [Array.getD_eq_getD_getElem?, arrV_read _ _ (by omega)]
        rfl
      refine ⟨?_, ?_⟩
      · rw [e]; rfl
      · rw [e]; exact trivial)
    (g := F0 X.2.2.2.2.1 pc ls (.int n :: .int dp :: .ref a1 :: .int sp :: .ref a0 :: rest)) rfl (by rw [C.2.2.1]; exact g3.1) (rest := rest) rfl (by rw [C.2.1]; exact hd) (by rw [C.rm]; exact hfr) (by rw [C.rm]; show 2 * 0 + _ + _ ≤ _; omega)
  have e1 : copied (vp_cell (kA K 0) (xn M a0, .inl (xi M a0))) (vp_cell (kA K 0) (xn M a1, .inl (xi M a1))) sp dp n = vp_cell (kA K 0) (xn M a1, .inl (va_cpy (xi M a0) (xi M a1) sp.toNatClampNeg dp.toNatClampNeg n.toNatClampNeg)) := va_copied (fun z => .int z) (kA K 0) (kA K 0) (xi M a0) (xi M a1) h4
  rw [e1] at Y' step
  have hl : a1 < H.size := (Array.getElem?_eq_some_iff.mp q1).1
  have hheap : ((T.setVm vm').setCell a1 (vp_cell (kA K 0) (xn M a1, .inl (va_cpy (xi M a0) (xi M a1) sp.toNatClampNeg dp.toNatClampNeg n.toNatClampNeg)))).heap = H.setIfInBounds a1 (vp_cell (kA K 0) (xn M a1, .inl (va_cpy (xi M a0) (xi M a1) sp.toNatClampNeg dp.toNatClampNeg n.toNatClampNeg))) := by rw [← hT]; rfl
  have oq : ∀ q : Nat, q ≠ a1 → (H.setIfInBounds a1 (vp_cell (kA K 0) (xn M a1, .inl (va_cpy (xi M a0) (xi M a1) sp.toNatClampNeg dp.toNatClampNeg n.toNatClampNeg))))[q]? = H[q]? := fun q hq => by simp [Array.getElem?_setIfInBounds, Ne.symm hq]
  have hA1 : gA K a1 := g1.1.2.2.1 a1 (by omega)
  obtain ⟨t, b1, b2⟩ := kk _ _ ls (g1.stepX (a := a1) (by omega) rfl (g1.1.arr (t := 0) hc1 (by decide) sameA_cp (by
      rw [show (H.setIfInBounds a1 _)[a1]? = some _ by simp [Array.getElem?_setIfInBounds, hl]; exact rfl]
      rw [vp_cell_i]
      congr 2
      funext j
      show Value.int _ = Value.int _
      congr 1
      exact (if_pos rfl).symm) (by simp) oq) oq) ⟨by simp; exact g2.1, fun q z1 z2 => by
      rw [oq q (fun e => z2 (by rw [e]; exact hA1))]
      exact g2.2.1 q z1 z2, fun q hq => by
      rcases List.mem_append.mp hq with h | h
      · exact g2.2.2 q h
      · obtain ⟨z, -, hz⟩ := List.mem_map.mp h
        rw [← hz]
        exact hA1⟩ g3 _ hheap Y'
  exact ⟨t, step t b1, b2⟩
end GR9
/-! what a method that returns or throws says, out of its function's value -/
def oI (o : (Int32 × XS) ⊕ (Nat × XS)) : Option Value ⊕ Nat := match o with
  | .inl p => .inl (some (.int p.1))
  | .inr p => .inr p.1
def oIm (o : (Int32 × XS) ⊕ (Nat × XS)) : XS := match o with
  | .inl p => p.2
  | .inr p => p.2
def oL (o : (Int64 × XS) ⊕ (Nat × XS)) : Option Value ⊕ Nat := match o with
  | .inl p => .inl (some (.long p.1))
  | .inr p => .inr p.1
def oLm (o : (Int64 × XS) ⊕ (Nat × XS)) : XS := match o with
  | .inl p => p.2
  | .inr p => p.2
def oR (o : (Nat × XS) ⊕ (Nat × XS)) : Option Value ⊕ Nat := match o with
  | .inl p => .inl (some (.ref p.1))
  | .inr p => .inr p.1
def oRm (o : (Nat × XS) ⊕ (Nat × XS)) : XS := match o with
  | .inl p => p.2
  | .inr p => p.2
def oV (o : XS ⊕ (Nat × XS)) : Option Value ⊕ Nat := match o with
  | .inl _ => .inl none
  | .inr p => .inr p.1
def oVm (o : XS ⊕ (Nat × XS)) : XS := match o with
  | .inl p => p
  | .inr p => p.2
def fS_len (i : Nat) : Option Int32 := if i < 2 then some (nI (gSlen.getD i 0)) else none
def fS_at (i : Nat) (k : Int32) : Option Int32 := if i < 2 ∧ ¬ (k < 0 ∨ gSlen.getD i 0 ≤ k.toNatClampNeg) then some ((gSbyt.getD i []).getD k.toNatClampNeg 0) else none
section GR10
variable {K : gK} {X : gX} {cc : ByteArray} {nL cs sl_ : Nat} {y0 : MethodName} {ret : Option FieldType} {rm0 : Room} {M : XS} {S : Option MS} {pc : Nat} {lv : List (Nat × Value)} {rest : List Value}
theorem GG.aloadO_n (C : gC K X cc nL y0 ret rm0) {i : Fin 4} {x : Option Nat} (hd : decode cc pc = .ok (.aload_n i, 1)) (j : Nat) (hl : lv[j]? = some ((i : Nat), va_rf x)) (k : GG K X nL cs sl_ M S (pc + 1) lv (va_rf x :: rest)) : GG K X nL cs sl_ M S pc lv rest := by
  cases x with
  | none => exact fun H locs ls h1 h2 h3 => lv_aload_nN C.1 C.2.1 hd rfl (lv_at h3 j hl) (k H locs ls h1 h2 h3)
  | some x => exact fun H locs ls h1 h2 h3 => lv_aload_n C.1 C.2.1 hd rfl (lv_at h3 j hl) (k H locs ls h1 h2 h3)
theorem GG.aloadO (C : gC K X cc nL y0 ret rm0) {i : Nat} {x : Option Nat} (hd : decode cc pc = .ok (.aload i, 2)) (j : Nat) (hl : lv[j]? = some (i, va_rf x)) (k : GG K X nL cs sl_ M S (pc + 2) lv (va_rf x :: rest)) : GG K X nL cs sl_ M S pc lv rest := by
  cases x with
  | none => exact fun H locs ls h1 h2 h3 => lv_aloadN C.1 C.2.1 hd (lv_at h3 j hl) (k H locs ls h1 h2 h3)
  | some x => exact fun H locs ls h1 h2 h3 => lv_aload C.1 C.2.1 hd (lv_at h3 j hl) (k H locs ls h1 h2 h3)
theorem GG.aloadN_n (C : gC K X cc nL y0 ret rm0) {i : Fin 4} (hd : decode cc pc = .ok (.aload_n i, 1)) (j : Nat) (hl : lv[j]? = some ((i : Nat), .null)) (k : GG K X nL cs sl_ M S (pc + 1) lv (.null :: rest)) : GG K X nL cs sl_ M S pc lv rest := fun H locs ls h1 h2 h3 => lv_aload_nN C.1 C.2.1 hd rfl (lv_at h3 j hl) (k H locs ls h1 h2 h3)
theorem GG.aloadN (C : gC K X cc nL y0 ret rm0) {i : Nat} (hd : decode cc pc = .ok (.aload i, 2)) (j : Nat) (hl : lv[j]? = some (i, .null)) (k : GG K X nL cs sl_ M S (pc + 2) lv (.null :: rest)) : GG K X nL cs sl_ M S pc lv rest := fun H locs ls h1 h2 h3 => lv_aloadN C.1 C.2.1 hd (lv_at h3 j hl) (k H locs ls h1 h2 h3)
theorem GG.astoreN_n (C : gC K X cc nL y0 ret rm0) {i : Fin 4} {lv' : List (Nat × Value)} (hd : decode cc pc = .ok (.astore_n i, 1)) (hn : (i : Nat) < nL) (hl : ((i : Nat), Value.null) :: lv.filter (fun q => !(q.1 == (i : Nat)) && !(q.1 + 1 == (i : Nat) && q.2.category == 2)) = lv') (k : GG K X nL cs sl_ M S (pc + 1) lv' rest) : GG K X nL cs sl_ M S pc lv (.null :: rest) := fun H locs ls h1 h2 h3 => lv_astore_nN C.1 C.2.1 hd rfl h3 hn hl (fun ls' h3' => k H locs ls' h1 h2 h3')
theorem GG.astoreN (C : gC K X cc nL y0 ret rm0) {i : Nat} {lv' : List (Nat × Value)} (hd : decode cc pc = .ok (.astore i, 2)) (hn : i < nL) (hl : (i, Value.null) :: lv.filter (fun q => !(q.1 == i) && !(q.1 + 1 == i && q.2.category == 2)) = lv') (k : GG K X nL cs sl_ M S (pc + 2) lv' rest) : GG K X nL cs sl_ M S pc lv (.null :: rest) := fun H locs ls h1 h2 h3 => lv_astoreN C.1 C.2.1 hd h3 hn hl (fun ls' h3' => k H locs ls' h1 h2 h3')
theorem GG.astoreO_n (C : gC K X cc nL y0 ret rm0) {i : Fin 4} {x : Option Nat} {lv' : List (Nat × Value)} (hd : decode cc pc = .ok (.astore_n i, 1)) (hn : (i : Nat) < nL) (hl : ((i : Nat), va_rf x) :: lv.filter (fun q => !(q.1 == (i : Nat)) && !(q.1 + 1 == (i : Nat) && q.2.category == 2)) = lv') (k : GG K X nL cs sl_ M S (pc + 1) lv' rest) : GG K X nL cs sl_ M S pc lv (va_rf x :: rest) := by
  cases x with
  | none => exact GG.astoreN_n C hd hn hl k
  | some x => exact GG.astore_n C hd hn hl k
theorem GG.astoreO (C : gC K X cc nL y0 ret rm0) {i : Nat} {x : Option Nat} {lv' : List (Nat × Value)} (hd : decode cc pc = .ok (.astore i, 2)) (hn : i < nL) (hl : (i, va_rf x) :: lv.filter (fun q => !(q.1 == i) && !(q.1 + 1 == i && q.2.category == 2)) = lv') (k : GG K X nL cs sl_ M S (pc + 2) lv' rest) : GG K X nL cs sl_ M S pc lv (va_rf x :: rest) := by
  cases x with
  | none => exact GG.astoreN C hd hn hl k
  | some x => exact GG.astore C hd hn hl k
/-- a change set in a row of changes -/
theorem GG.aastC (C : gC K X cc nL y0 ret rm0) {a v : Nat} {i : Int32} {M' : XS} (h : xrst M 4 a i v = some M') (hc : 1 ≤ xc M v ∧ xc M v ≤ 4) (hd : decode cc pc = .ok (.aastore, 1)) (kk : GG K X nL cs sl_ M' S (pc + 1) lv rest) : GG K X nL cs sl_ M S pc lv (.ref v :: .int i :: .ref a :: rest) := by
  have h4 : xc M v = 1 ∨ xc M v = 2 ∨ xc M v = 3 ∨ xc M v = 4 := by omega
  have hq : ∀ w : Cond, w ∈ lw_tbl → gNest w = true → va_Nw w X.2.2.2.1 := C.gt.2.1
  rcases h4 with e | e | e | e
  · exact GG.aast C 0 (ci := 0) (r := (RX8, TX8, 10)) h rfl (fun _ _ _ => rfl) (by decide) e rfl (fun comp c0 e1 e2 => vb_asgC (hq _ q2215 rfl) comp c0 e1 e2) hd kk
  · exact GG.aast C 0 (ci := 1) (r := (RX11, TX11, 8)) h rfl (fun _ _ _ => rfl) (by decide) e rfl (fun comp c0 e1 e2 => vb_asgC (hq _ q2218 rfl) comp c0 e1 e2) hd kk
  · exact GG.aast C 0 (ci := 2) (r := (RX10, TX10, 10)) h rfl (fun _ _ _ => rfl) (by decide) e rfl (fun comp c0 e1 e2 => vb_asgC (hq _ q2217 rfl) comp c0 e1 e2) hd kk
  · exact GG.aast C 0 (ci := 3) (r := (RX9, TX9, 9)) h rfl (fun _ _ _ => rfl) (by decide) e rfl (fun comp c0 e1 e2 => vb_asgC (hq _ q2216 rfl) comp c0 e1 e2) hd kk
theorem GG.slen (C : gC K X cc nL y0 ret rm0) {idx i : Nat} {v : Int32} (hq : Cond.methodLink y0.cls idx ⟨"java/lang/String", "length", "()I"⟩ ∈ lw_all) (h : fS_len i = some v) (hf : 7 ≤ rm0.frames) (hl : 300 ≤ rm0.locals) (hc : cs ≤ rm0.cells) (hs : sl_ ≤ rm0.slots) (hW : (rest.map fun v => v.category).sum ≤ 8) (hd : decode cc pc = .ok (.invokevirtual idx, 3)) (kk : GG K X nL cs sl_ M S (pc + 3) lv (.int v :: rest)) : GG K X nL cs sl_ M S pc lv (.ref (kS K i) :: rest) := sorry
theorem GG.sat (C : gC K X cc nL y0 ret rm0) {idx i : Nat} {k v : Int32} (hq : Cond.methodLink y0.cls idx ⟨"java/lang/String", "charAt", "(I)C"⟩ ∈ lw_all) (h : fS_at i k = some v) (hf : 7 ≤ rm0.frames) (hl : 300 ≤ rm0.locals) (hc : cs ≤ rm0.cells) (hs : sl_ ≤ rm0.slots) (hW : (rest.map fun v => v.category).sum ≤ 8) (hd : decode cc pc = .ok (.invokevirtual idx, 3)) (kk : GG K X nL cs sl_ M S (pc + 3) lv (.int v :: rest)) : GG K X nL cs sl_ M S pc lv (.int k :: .ref (kS K i) :: rest) := sorry
end GR10
