set_option maxRecDepth 100000
/-! THE ABSTRACT STATE. nm: 0 ticks, 1 completed, 2 running, 3 sunk, 4 begun, 5 operators; cf: 0 batch, 1 oldest, 2 credits, 3 rate; op: kind, a, b, instances; stt: 0 processed, 1 emitted, 2 blocked, 3 idle; st, ct, of: versions 0 present, 1 running, 2 complete -/
/-- a record: key, value, birth -/
abbrev aRec : Type := Nat × Int32 × Nat
/-- a channel: its queue (none: a barrier; what is left of a batch), the pending batch, its age -/
abbrev aCh : Type := List (Option (List aRec)) × List aRec × Nat
def aA : Type := (List Nat) × (List (Nat × Int32)) × (Nat → Nat) × (Int32) × (Nat → Nat) × (Nat → Nat × Int32 × Int32 × Nat) × (Nat → Nat → Int32) × (Nat → Nat → Nat → Option (Int32 × Int32)) × (Nat → Nat → Nat → Nat) × (Nat → Nat) × (Nat → Nat → List aRec) × (Nat → Nat → Nat → Bool) × (Nat → Nat → Nat) × (Nat → Nat → Bool) × (Nat → Nat → Nat → aCh) × (Nat → Nat → Bool) × (List (Nat × Nat)) × (List Nat)
def aA.txt (a : aA) : List Nat := a.1
def aA.inp (a : aA) : List (Nat × Int32) := a.2.1
def aA.nm (a : aA) : Nat → Nat := a.2.2.1
def aA.fl (a : aA) : Int32 := a.2.2.2.1
def aA.cf (a : aA) : Nat → Nat := a.2.2.2.2.1
def aA.op (a : aA) : Nat → Nat × Int32 × Int32 × Nat := a.2.2.2.2.2.1
def aA.stt (a : aA) : Nat → Nat → Int32 := a.2.2.2.2.2.2.1
def aA.st (a : aA) : Nat → Nat → Nat → Option (Int32 × Int32) := a.2.2.2.2.2.2.2.1
def aA.ct (a : aA) : Nat → Nat → Nat → Nat := a.2.2.2.2.2.2.2.2.1
def aA.of (a : aA) : Nat → Nat := a.2.2.2.2.2.2.2.2.2.1
def aA.ls (a : aA) : Nat → Nat → List aRec := a.2.2.2.2.2.2.2.2.2.2.1
def aA.sp (a : aA) : Nat → Nat → Nat → Bool := a.2.2.2.2.2.2.2.2.2.2.2.1
def aA.pt (a : aA) : Nat → Nat → Nat := a.2.2.2.2.2.2.2.2.2.2.2.2.1
def aA.hd (a : aA) : Nat → Nat → Bool := a.2.2.2.2.2.2.2.2.2.2.2.2.2.1
def aA.ch (a : aA) : Nat → Nat → Nat → aCh := a.2.2.2.2.2.2.2.2.2.2.2.2.2.2.1
def aA.al (a : aA) : Nat → Nat → Bool := a.2.2.2.2.2.2.2.2.2.2.2.2.2.2.2.1
def aA.ex (a : aA) : List (Nat × Nat) := a.2.2.2.2.2.2.2.2.2.2.2.2.2.2.2.2.1
def aA.wr (a : aA) : List Nat := a.2.2.2.2.2.2.2.2.2.2.2.2.2.2.2.2.2
def aA.w_txt (a : aA) (x : List Nat) : aA := (x, a.2.1, a.2.2.1, a.2.2.2.1, a.2.2.2.2.1, a.2.2.2.2.2.1, a.2.2.2.2.2.2.1, a.2.2.2.2.2.2.2.1, a.2.2.2.2.2.2.2.2.1, a.2.2.2.2.2.2.2.2.2.1, a.2.2.2.2.2.2.2.2.2.2.1, a.2.2.2.2.2.2.2.2.2.2.2.1, a.2.2.2.2.2.2.2.2.2.2.2.2.1, a.2.2.2.2.2.2.2.2.2.2.2.2.2.1, a.2.2.2.2.2.2.2.2.2.2.2.2.2.2.1, a.2.2.2.2.2.2.2.2.2.2.2.2.2.2.2.1, a.2.2.2.2.2.2.2.2.2.2.2.2.2.2.2.2.1, a.2.2.2.2.2.2.2.2.2.2.2.2.2.2.2.2.2)
def aA.w_inp (a : aA) (x : List (Nat × Int32)) : aA := (a.1, x, a.2.2.1, a.2.2.2.1, a.2.2.2.2.1, a.2.2.2.2.2.1, a.2.2.2.2.2.2.1, a.2.2.2.2.2.2.2.1, a.2.2.2.2.2.2.2.2.1, a.2.2.2.2.2.2.2.2.2.1, a.2.2.2.2.2.2.2.2.2.2.1, a.2.2.2.2.2.2.2.2.2.2.2.1, a.2.2.2.2.2.2.2.2.2.2.2.2.1, a.2.2.2.2.2.2.2.2.2.2.2.2.2.1, a.2.2.2.2.2.2.2.2.2.2.2.2.2.2.1, a.2.2.2.2.2.2.2.2.2.2.2.2.2.2.2.1, a.2.2.2.2.2.2.2.2.2.2.2.2.2.2.2.2.1, a.2.2.2.2.2.2.2.2.2.2.2.2.2.2.2.2.2)
def aA.w_nm (a : aA) (x : Nat → Nat) : aA := (a.1, a.2.1, x, a.2.2.2.1, a.2.2.2.2.1, a.2.2.2.2.2.1, a.2.2.2.2.2.2.1, a.2.2.2.2.2.2.2.1, a.2.2.2.2.2.2.2.2.1, a.2.2.2.2.2.2.2.2.2.1, a.2.2.2.2.2.2.2.2.2.2.1, a.2.2.2.2.2.2.2.2.2.2.2.1, a.2.2.2.2.2.2.2.2.2.2.2.2.1, a.2.2.2.2.2.2.2.2.2.2.2.2.2.1, a.2.2.2.2.2.2.2.2.2.2.2.2.2.2.1, a.2.2.2.2.2.2.2.2.2.2.2.2.2.2.2.1, a.2.2.2.2.2.2.2.2.2.2.2.2.2.2.2.2.1, a.2.2.2.2.2.2.2.2.2.2.2.2.2.2.2.2.2)
def aA.w_fl (a : aA) (x : Int32) : aA := (a.1, a.2.1, a.2.2.1, x, a.2.2.2.2.1, a.2.2.2.2.2.1, a.2.2.2.2.2.2.1, a.2.2.2.2.2.2.2.1, a.2.2.2.2.2.2.2.2.1, a.2.2.2.2.2.2.2.2.2.1, a.2.2.2.2.2.2.2.2.2.2.1, a.2.2.2.2.2.2.2.2.2.2.2.1, a.2.2.2.2.2.2.2.2.2.2.2.2.1, a.2.2.2.2.2.2.2.2.2.2.2.2.2.1, a.2.2.2.2.2.2.2.2.2.2.2.2.2.2.1, a.2.2.2.2.2.2.2.2.2.2.2.2.2.2.2.1, a.2.2.2.2.2.2.2.2.2.2.2.2.2.2.2.2.1, a.2.2.2.2.2.2.2.2.2.2.2.2.2.2.2.2.2)
def aA.w_cf (a : aA) (x : Nat → Nat) : aA := (a.1, a.2.1, a.2.2.1, a.2.2.2.1, x, a.2.2.2.2.2.1, a.2.2.2.2.2.2.1, a.2.2.2.2.2.2.2.1, a.2.2.2.2.2.2.2.2.1, a.2.2.2.2.2.2.2.2.2.1, a.2.2.2.2.2.2.2.2.2.2.1, a.2.2.2.2.2.2.2.2.2.2.2.1, a.2.2.2.2.2.2.2.2.2.2.2.2.1, a.2.2.2.2.2.2.2.2.2.2.2.2.2.1, a.2.2.2.2.2.2.2.2.2.2.2.2.2.2.1, a.2.2.2.2.2.2.2.2.2.2.2.2.2.2.2.1, a.2.2.2.2.2.2.2.2.2.2.2.2.2.2.2.2.1, a.2.2.2.2.2.2.2.2.2.2.2.2.2.2.2.2.2)
def aA.w_op (a : aA) (x : Nat → Nat × Int32 × Int32 × Nat) : aA := (a.1, a.2.1, a.2.2.1, a.2.2.2.1, a.2.2.2.2.1, x, a.2.2.2.2.2.2.1, a.2.2.2.2.2.2.2.1, a.2.2.2.2.2.2.2.2.1, a.2.2.2.2.2.2.2.2.2.1, a.2.2.2.2.2.2.2.2.2.2.1, a.2.2.2.2.2.2.2.2.2.2.2.1, a.2.2.2.2.2.2.2.2.2.2.2.2.1, a.2.2.2.2.2.2.2.2.2.2.2.2.2.1, a.2.2.2.2.2.2.2.2.2.2.2.2.2.2.1, a.2.2.2.2.2.2.2.2.2.2.2.2.2.2.2.1, a.2.2.2.2.2.2.2.2.2.2.2.2.2.2.2.2.1, a.2.2.2.2.2.2.2.2.2.2.2.2.2.2.2.2.2)
def aA.w_stt (a : aA) (x : Nat → Nat → Int32) : aA := (a.1, a.2.1, a.2.2.1, a.2.2.2.1, a.2.2.2.2.1, a.2.2.2.2.2.1, x, a.2.2.2.2.2.2.2.1, a.2.2.2.2.2.2.2.2.1, a.2.2.2.2.2.2.2.2.2.1, a.2.2.2.2.2.2.2.2.2.2.1, a.2.2.2.2.2.2.2.2.2.2.2.1, a.2.2.2.2.2.2.2.2.2.2.2.2.1, a.2.2.2.2.2.2.2.2.2.2.2.2.2.1, a.2.2.2.2.2.2.2.2.2.2.2.2.2.2.1, a.2.2.2.2.2.2.2.2.2.2.2.2.2.2.2.1, a.2.2.2.2.2.2.2.2.2.2.2.2.2.2.2.2.1, a.2.2.2.2.2.2.2.2.2.2.2.2.2.2.2.2.2)
def aA.w_st (a : aA) (x : Nat → Nat → Nat → Option (Int32 × Int32)) : aA := (a.1, a.2.1, a.2.2.1, a.2.2.2.1, a.2.2.2.2.1, a.2.2.2.2.2.1, a.2.2.2.2.2.2.1, x, a.2.2.2.2.2.2.2.2.1, a.2.2.2.2.2.2.2.2.2.1, a.2.2.2.2.2.2.2.2.2.2.1, a.2.2.2.2.2.2.2.2.2.2.2.1, a.2.2.2.2.2.2.2.2.2.2.2.2.1, a.2.2.2.2.2.2.2.2.2.2.2.2.2.1, a.2.2.2.2.2.2.2.2.2.2.2.2.2.2.1, a.2.2.2.2.2.2.2.2.2.2.2.2.2.2.2.1, a.2.2.2.2.2.2.2.2.2.2.2.2.2.2.2.2.1, a.2.2.2.2.2.2.2.2.2.2.2.2.2.2.2.2.2)
def aA.w_ct (a : aA) (x : Nat → Nat → Nat → Nat) : aA := (a.1, a.2.1, a.2.2.1, a.2.2.2.1, a.2.2.2.2.1, a.2.2.2.2.2.1, a.2.2.2.2.2.2.1, a.2.2.2.2.2.2.2.1, x, a.2.2.2.2.2.2.2.2.2.1, a.2.2.2.2.2.2.2.2.2.2.1, a.2.2.2.2.2.2.2.2.2.2.2.1, a.2.2.2.2.2.2.2.2.2.2.2.2.1, a.2.2.2.2.2.2.2.2.2.2.2.2.2.1, a.2.2.2.2.2.2.2.2.2.2.2.2.2.2.1, a.2.2.2.2.2.2.2.2.2.2.2.2.2.2.2.1, a.2.2.2.2.2.2.2.2.2.2.2.2.2.2.2.2.1, a.2.2.2.2.2.2.2.2.2.2.2.2.2.2.2.2.2)
def aA.w_of (a : aA) (x : Nat → Nat) : aA := (a.1, a.2.1, a.2.2.1, a.2.2.2.1, a.2.2.2.2.1, a.2.2.2.2.2.1, a.2.2.2.2.2.2.1, a.2.2.2.2.2.2.2.1, a.2.2.2.2.2.2.2.2.1, x, a.2.2.2.2.2.2.2.2.2.2.1, a.2.2.2.2.2.2.2.2.2.2.2.1, a.2.2.2.2.2.2.2.2.2.2.2.2.1, a.2.2.2.2.2.2.2.2.2.2.2.2.2.1, a.2.2.2.2.2.2.2.2.2.2.2.2.2.2.1, a.2.2.2.2.2.2.2.2.2.2.2.2.2.2.2.1, a.2.2.2.2.2.2.2.2.2.2.2.2.2.2.2.2.1, a.2.2.2.2.2.2.2.2.2.2.2.2.2.2.2.2.2)
def aA.w_ls (a : aA) (x : Nat → Nat → List aRec) : aA := (a.1, a.2.1, a.2.2.1, a.2.2.2.1, a.2.2.2.2.1, a.2.2.2.2.2.1, a.2.2.2.2.2.2.1, a.2.2.2.2.2.2.2.1, a.2.2.2.2.2.2.2.2.1, a.2.2.2.2.2.2.2.2.2.1, x, a.2.2.2.2.2.2.2.2.2.2.2.1, a.2.2.2.2.2.2.2.2.2.2.2.2.1, a.2.2.2.2.2.2.2.2.2.2.2.2.2.1, a.2.2.2.2.2.2.2.2.2.2.2.2.2.2.1, a.2.2.2.2.2.2.2.2.2.2.2.2.2.2.2.1, a.2.2.2.2.2.2.2.2.2.2.2.2.2.2.2.2.1, a.2.2.2.2.2.2.2.2.2.2.2.2.2.2.2.2.2)
def aA.w_sp (a : aA) (x : Nat → Nat → Nat → Bool) : aA := (a.1, a.2.1, a.2.2.1, a.2.2.2.1, a.2.2.2.2.1, a.2.2.2.2.2.1, a.2.2.2.2.2.2.1, a.2.2.2.2.2.2.2.1, a.2.2.2.2.2.2.2.2.1, a.2.2.2.2.2.2.2.2.2.1, a.2.2.2.2.2.2.2.2.2.2.1, x, a.2.2.2.2.2.2.2.2.2.2.2.2.1, a.2.2.2.2.2.2.2.2.2.2.2.2.2.1, a.2.2.2.2.2.2.2.2.2.2.2.2.2.2.1, a.2.2.2.2.2.2.2.2.2.2.2.2.2.2.2.1, a.2.2.2.2.2.2.2.2.2.2.2.2.2.2.2.2.1, a.2.2.2.2.2.2.2.2.2.2.2.2.2.2.2.2.2)
def aA.w_pt (a : aA) (x : Nat → Nat → Nat) : aA := (a.1, a.2.1, a.2.2.1, a.2.2.2.1, a.2.2.2.2.1, a.2.2.2.2.2.1, a.2.2.2.2.2.2.1, a.2.2.2.2.2.2.2.1, a.2.2.2.2.2.2.2.2.1, a.2.2.2.2.2.2.2.2.2.1, a.2.2.2.2.2.2.2.2.2.2.1, a.2.2.2.2.2.2.2.2.2.2.2.1, x, a.2.2.2.2.2.2.2.2.2.2.2.2.2.1, a.2.2.2.2.2.2.2.2.2.2.2.2.2.2.1, a.2.2.2.2.2.2.2.2.2.2.2.2.2.2.2.1, a.2.2.2.2.2.2.2.2.2.2.2.2.2.2.2.2.1, a.2.2.2.2.2.2.2.2.2.2.2.2.2.2.2.2.2)
def aA.w_hd (a : aA) (x : Nat → Nat → Bool) : aA := (a.1, a.2.1, a.2.2.1, a.2.2.2.1, a.2.2.2.2.1, a.2.2.2.2.2.1, a.2.2.2.2.2.2.1, a.2.2.2.2.2.2.2.1, a.2.2.2.2.2.2.2.2.1, a.2.2.2.2.2.2.2.2.2.1, a.2.2.2.2.2.2.2.2.2.2.1, a.2.2.2.2.2.2.2.2.2.2.2.1, a.2.2.2.2.2.2.2.2.2.2.2.2.1, x, a.2.2.2.2.2.2.2.2.2.2.2.2.2.2.1, a.2.2.2.2.2.2.2.2.2.2.2.2.2.2.2.1, a.2.2.2.2.2.2.2.2.2.2.2.2.2.2.2.2.1, a.2.2.2.2.2.2.2.2.2.2.2.2.2.2.2.2.2)
def aA.w_ch (a : aA) (x : Nat → Nat → Nat → aCh) : aA := (a.1, a.2.1, a.2.2.1, a.2.2.2.1, a.2.2.2.2.1, a.2.2.2.2.2.1, a.2.2.2.2.2.2.1, a.2.2.2.2.2.2.2.1, a.2.2.2.2.2.2.2.2.1, a.2.2.2.2.2.2.2.2.2.1, a.2.2.2.2.2.2.2.2.2.2.1, a.2.2.2.2.2.2.2.2.2.2.2.1, a.2.2.2.2.2.2.2.2.2.2.2.2.1, a.2.2.2.2.2.2.2.2.2.2.2.2.2.1, x, a.2.2.2.2.2.2.2.2.2.2.2.2.2.2.2.1, a.2.2.2.2.2.2.2.2.2.2.2.2.2.2.2.2.1, a.2.2.2.2.2.2.2.2.2.2.2.2.2.2.2.2.2)
def aA.w_al (a : aA) (x : Nat → Nat → Bool) : aA := (a.1, a.2.1, a.2.2.1, a.2.2.2.1, a.2.2.2.2.1, a.2.2.2.2.2.1, a.2.2.2.2.2.2.1, a.2.2.2.2.2.2.2.1, a.2.2.2.2.2.2.2.2.1, a.2.2.2.2.2.2.2.2.2.1, a.2.2.2.2.2.2.2.2.2.2.1, a.2.2.2.2.2.2.2.2.2.2.2.1, a.2.2.2.2.2.2.2.2.2.2.2.2.1, a.2.2.2.2.2.2.2.2.2.2.2.2.2.1, a.2.2.2.2.2.2.2.2.2.2.2.2.2.2.1, x, a.2.2.2.2.2.2.2.2.2.2.2.2.2.2.2.2.1, a.2.2.2.2.2.2.2.2.2.2.2.2.2.2.2.2.2)
def aA.w_ex (a : aA) (x : List (Nat × Nat)) : aA := (a.1, a.2.1, a.2.2.1, a.2.2.2.1, a.2.2.2.2.1, a.2.2.2.2.2.1, a.2.2.2.2.2.2.1, a.2.2.2.2.2.2.2.1, a.2.2.2.2.2.2.2.2.1, a.2.2.2.2.2.2.2.2.2.1, a.2.2.2.2.2.2.2.2.2.2.1, a.2.2.2.2.2.2.2.2.2.2.2.1, a.2.2.2.2.2.2.2.2.2.2.2.2.1, a.2.2.2.2.2.2.2.2.2.2.2.2.2.1, a.2.2.2.2.2.2.2.2.2.2.2.2.2.2.1, a.2.2.2.2.2.2.2.2.2.2.2.2.2.2.2.1, x, a.2.2.2.2.2.2.2.2.2.2.2.2.2.2.2.2.2)
def aA.w_wr (a : aA) (x : List Nat) : aA := (a.1, a.2.1, a.2.2.1, a.2.2.2.1, a.2.2.2.2.1, a.2.2.2.2.2.1, a.2.2.2.2.2.2.1, a.2.2.2.2.2.2.2.1, a.2.2.2.2.2.2.2.2.1, a.2.2.2.2.2.2.2.2.2.1, a.2.2.2.2.2.2.2.2.2.2.1, a.2.2.2.2.2.2.2.2.2.2.2.1, a.2.2.2.2.2.2.2.2.2.2.2.2.1, a.2.2.2.2.2.2.2.2.2.2.2.2.2.1, a.2.2.2.2.2.2.2.2.2.2.2.2.2.2.1, a.2.2.2.2.2.2.2.2.2.2.2.2.2.2.2.1, a.2.2.2.2.2.2.2.2.2.2.2.2.2.2.2.2.1, x)
def up1 {α : Type} (f : Nat → α) (i : Nat) (x : α) : Nat → α := fun k => if k = i then x else f k
def up2 {α : Type} (f : Nat → Nat → α) (i j : Nat) (x : α) : Nat → Nat → α := fun k m => if k = i ∧ m = j then x else f k m
def up3 {α : Type} (f : Nat → Nat → Nat → α) (i j l : Nat) (x : α) : Nat → Nat → Nat → α := fun k m n => if k = i ∧ m = j ∧ n = l then x else f k m n
theorem up1_s {α : Type} {f : Nat → α} {i : Nat} {x : α} : up1 f i x i = x := if_pos rfl
theorem up1_n {α : Type} {f : Nat → α} {i k : Nat} {x : α} (h : k ≠ i) : up1 f i x k = f k := if_neg h
theorem up2_s {α : Type} {f : Nat → Nat → α} {i j : Nat} {x : α} : up2 f i j x i j = x := if_pos ⟨rfl, rfl⟩
theorem up2_n {α : Type} {f : Nat → Nat → α} {i j k m : Nat} {x : α} (h : ¬ (k = i ∧ m = j)) : up2 f i j x k m = f k m := if_neg h
theorem up3_s {α : Type} {f : Nat → Nat → Nat → α} {i j l : Nat} {x : α} : up3 f i j l x i j l = x := if_pos ⟨rfl, rfl, rfl⟩
theorem up3_n {α : Type} {f : Nat → Nat → Nat → α} {i j l k m n : Nat} {x : α} (h : ¬ (k = i ∧ m = j ∧ n = l)) : up3 f i j l x k m n = f k m n := if_neg h
/-! shorthands -/
def aA.tk (a : aA) : Nat := a.nm 0
def aA.cp (a : aA) : Nat := a.nm 1
def aA.rn (a : aA) : Nat := a.nm 2
def aA.sk (a : aA) : Nat := a.nm 3
def aA.n (a : aA) : Nat := a.nm 5
def aA.kd (a : aA) (o : Nat) : Nat := (a.op o).1
def aA.pa (a : aA) (o : Nat) : Int32 := (a.op o).2.1
def aA.pb (a : aA) (o : Nat) : Int32 := (a.op o).2.2.1
def aA.p (a : aA) (o : Nat) : Nat := (a.op o).2.2.2
def kKey (k : Nat) : Bool := k == 4 || k == 5 || k == 6 || k == 8
def aA.ky (a : aA) (o : Nat) : Bool := kKey (a.kd o)
def aHome (key p : Nat) : Nat := key % 8 * p / 8
def aRk (x : Int32) : Nat := (x.toInt % 16).toNat
/-- what a record leads to: records by key and value, and the key's state behind it -/
def aProc (k : Nat) (pa pb : Int32) (s : Option (Int32 × Int32)) (key : Nat) (v : Int32) : List (Nat × Int32) × Option (Int32 × Int32) :=
  if k = 7 then ([(key, v)], s)
  else if k = 0 then ([(key, v * pa + pb)], s)
  else if k = 1 then ((if (if pa = 0 then v < pb else if pa = 1 then v = pb else pb < v) then [(key, v)] else []), s)
  else if k = 2 then ([(aRk (nI key * pa + pb), v)], s)
  else if k = 3 then ((List.range pa.toNatClampNeg).map (fun j => (key, v + nI j)), s)
  else if k = 5 then ((if s.isSome = true ∧ (s.getD (0, 0)).1 = v then [] else [(key, v)]), some (v, 0))
  else if k = 6 then (if s.isSome = true ∧ v ≤ (s.getD (0, 0)).1 then ([], s) else ([(key, v)], some (v, 0)))
  else if k = 4 then (if (s.getD (0, 0)).2 + 1 < pa then ([], some ((s.getD (0, 0)).1 + v, (s.getD (0, 0)).2 + 1)) else ([(key, (s.getD (0, 0)).1 + v)], none))
  else ([], some ((s.getD (0, 0)).1 + v, (s.getD (0, 0)).2 + 1))
/-! channels -/
def cClose (c : aCh) : aCh := (c.1 ++ [some c.2.1], [], 0)
def cFit (bs cr : Nat) (c : aCh) : Bool := decide (c.2.1.length < bs) || decide (c.1.length < cr)
def cPut (bs cr : Nat) (c : aCh) (r : aRec) : aCh :=
  let c1 := if c.2.1.length = bs then cClose c else c
  let c2 : aCh := (c1.1, c1.2.1 ++ [r], c1.2.2)
  if c2.2.1.length = bs ∧ c2.1.length < cr then cClose c2 else c2
def cFitB (cr : Nat) (c : aCh) : Bool := decide (c.1.length + (if 0 < c.2.1.length then 2 else 1) ≤ cr)
def cPutB (c : aCh) : aCh :=
  let c1 := if 0 < c.2.1.length then cClose c else c
  (c1.1 ++ [none], [], 0)
def cGrow (old cr : Nat) (c : aCh) : aCh :=
  if c.2.1.length = 0 then c
  else if old ≤ c.2.2 + 1 ∧ c.1.length < cr then cClose c else (c.1, c.2.1, c.2.2 + 1)
def qLen (q : List (Option (List aRec))) : Nat := (q.map fun b => (b.getD []).length).sum
def cRecs (c : aCh) : Nat := qLen c.1 + c.2.1.length
def c0 : aCh := ([], [], 0)
/-! an instance's work -/
def aA.goal (a : aA) (o i : Nat) (r : aRec) : Nat := if a.ky (o + 1) then aHome r.1 (a.p (o + 1)) else a.ct 0 o i % a.p (o + 1)
def aA.put (a : aA) (o i j : Nat) (r : aRec) : aA := a.w_ch (up3 a.ch o i j (cPut (a.cf 0) (a.cf 2) (a.ch o i j) r))
def aA.cnt (a : aA) (o i : Nat) : aA := a.w_ct (if a.ky (o + 1) = true then a.ct else up3 a.ct 0 o i (a.ct 0 o i + 1))
/-- one record is sent: the counter, the channel, the list -/
def aA.send (a : aA) (o i : Nat) (r : aRec) (rest : List aRec) : aA := (((a.cnt o i).put o i (a.goal o i r) r)).w_ls (up2 a.ls o i rest)
def aA.sendL (o i : Nat) : List aRec → aA → Bool × aA
  | [], a => (true, a)
  | r :: rest, a => if cFit (a.cf 0) (a.cf 2) (a.ch o i (a.goal o i r)) then aA.sendL o i rest (a.send o i r rest) else (false, a)
def aA.bar (a : aA) (o i : Nat) : Option Nat := (List.range (a.p (o + 1))).find? (fun j => !cFitB (a.cf 2) (a.ch o i j))
def aA.putBs (o i : Nat) : Nat → Nat → aA → aA
  | 0, _, a => a
  | k + 1, j, a => aA.putBs o i k (j + 1) (a.w_ch (up3 a.ch o i j (cPutB (a.ch o i j))))
def aA.flush (a : aA) (o i : Nat) : Bool × aA :=
  let s := aA.sendL o i (a.ls o i) a
  if s.1 = false then s
  else if s.2.hd o i = false then s
  else if (s.2.bar o i).isSome then (false, s.2)
  else (true, (aA.putBs o i (s.2.p (o + 1)) 0 s.2).w_hd (up2 s.2.hd o i false))
/-- an operator's number, one up -/
def aA.inc (a : aA) (k o : Nat) : aA := a.w_stt (up2 a.stt k o (a.stt k o + 1))
def aA.emit (a : aA) (o i : Nat) (r : aRec) : aA := (a.w_ls (up2 a.ls o i (a.ls o i ++ [r]))).inc 1 o
def aA.emits (o i b : Nat) : List (Nat × Int32) → aA → aA
  | [], a => a
  | x :: l, a => aA.emits o i b l (a.emit o i (x.1, x.2, b))
def aA.takeIn (a : aA) (o i : Nat) (r : aRec) : aA :=
  let q := aProc (a.kd o) (a.pa o) (a.pb o) (a.st 0 o r.1) r.1 r.2.1
  aA.emits o i r.2.2 q.1 ((a.inc 0 o).w_st (up3 a.st 0 o r.1 q.2))
def aA.ready (a : aA) (o i : Nat) : Option Nat :=
  ((List.range (a.p (o - 1))).map (fun k => (a.pt o i + k) % a.p (o - 1))).find? (fun f => !a.sp o i f && !(a.ch (o - 1) f i).1.isEmpty)
def aA.finish (a : aA) : aA :=
  (((a.w_st (fun v => if v = 2 then a.st 1 else a.st v)).w_ct (fun v => if v = 2 then a.ct 1 else a.ct v)).w_of (fun v => if v = 2 then a.of 1 else a.of v)).w_nm (up1 (up1 a.nm 1 a.rn) 2 0)
/-- the barrier has come by all channels -/
def aA.align (a : aA) (o i : Nat) : aA :=
  let b := (((a.w_sp (fun x y f => if x = o ∧ y = i then false else a.sp x y f)).w_st (fun v x key => if v = 1 ∧ x = o ∧ a.ky o = true ∧ key < 16 ∧ aHome key (a.p o) = i then a.st 0 o key else a.st v x key)).w_ct (up3 a.ct 1 o i (a.ct 0 o i))).w_al (up2 a.al o i true)
  if o + 1 < a.n then b.w_hd (up2 a.hd o i true)
  else
    let c := b.w_nm (up1 a.nm 3 (a.sk + 1))
    if a.sk + 1 = a.p o then c.finish else c
def aA.full (a : aA) (o i : Nat) : Bool := (List.range (a.p (o - 1))).all (fun f => a.sp o i f)
def aA.takeItem (a : aA) (o i f : Nat) : aA :=
  let a1 := a.w_pt (up2 a.pt o i ((f + 1) % a.p (o - 1)))
  let c := a.ch (o - 1) f i
  match c.1 with
  | [] => a1
  | none :: q =>
    let a2 := (a1.w_ch (up3 a.ch (o - 1) f i (q, c.2.1, c.2.2))).w_sp (up3 a.sp o i f true)
    if a2.full o i then a2.align o i else a2
  | some [] :: q => a1.w_ch (up3 a.ch (o - 1) f i (q, c.2.1, c.2.2))
  | some (r :: rs) :: q => (a1.w_ch (up3 a.ch (o - 1) f i ((if rs.isEmpty then q else some rs :: q), c.2.1, c.2.2))).takeIn o i r
def aA.takeInput (a : aA) : aA :=
  let x := a.inp.getD (a.of 0) (0, 0)
  (a.w_of (up1 a.of 0 (a.of 0 + 1))).takeIn 0 0 (x.1, x.2, a.tk - 1)
def aA.take (a : aA) (o i : Nat) : Bool × aA :=
  if o = 0 then (if a.of 0 = a.inp.length then (false, a) else (true, a.takeInput))
  else match a.ready o i with
    | none => (false, a)
    | some f => (true, a.takeItem o i f)
def aA.work (o i : Nat) : Nat → aA → aA
  | b, a =>
    let s := a.flush o i
    if s.1 = false then s.2.inc 2 o
    else match b with
      | 0 => s.2
      | b + 1 =>
        let t := s.2.take o i
        if t.1 = false then t.2.inc 3 o else aA.work o i b t.2
def aA.works (o : Nat) : Nat → Nat → aA → aA
  | 0, _, a => a
  | k + 1, i, a => aA.works o k (i + 1) (aA.work o i (a.cf 3) a)
/-- the operators o - 1, .., 0 work -/
def aA.allWork : Nat → aA → aA
  | 0, a => a
  | o + 1, a => aA.allWork o (aA.works o (a.p o) 0 a)
def aA.grow (a : aA) : aA := a.w_ch (fun o i j => cGrow (a.cf 1) (a.cf 2) (a.ch o i j))
def aA.tick1 (a : aA) : aA := aA.allWork a.n ((a.grow).w_nm (up1 (up1 a.nm 4 1) 0 (a.tk + 1)))
/-- all is done: no input, no barrier, no record anywhere -/
def aA.quiet (a : aA) : Bool :=
  decide (a.of 0 = a.inp.length) && decide (a.rn = 0) && (List.range 6).all (fun o => (List.range 3).all fun i => (a.ls o i).isEmpty) && (List.range 6).all (fun o => (List.range 3).all fun i => (List.range 3).all fun j => (a.ch o i j).1.isEmpty && (a.ch o i j).2.1.isEmpty)
def aA.ticks : Nat → aA → Nat × aA
  | 0, a => (0, a)
  | k + 1, a => if a.quiet then (0, a) else ((aA.ticks k a.tick1).1 + 1, (aA.ticks k a.tick1).2)
