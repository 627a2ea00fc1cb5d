/-! THE CLASSES: the kinds of objects and arrays, and the words that ride apart -/
set_option maxRecDepth 100000
/-- of a thrown Fault only its own field is looked at -/
def TX6r : u_T := fun k => match k with
  | _ => ("NobodyBeenAft$Fault", "at", "I", true)
def tyX6r : Nat → FieldType := fun k => match k with
  | _ => .int
theorem tyX6r_ok : ∀ k, k < 1 → parseFieldDescriptor (TX6r k).2.2.1 = some (tyX6r k) := by decide +kernel
/-- NobodyBeenAft$Open till its Course has its this$0 -/
def TX13r : u_T := fun k => match k with
  | 0 => ("NobodyBeenAft$Course", "cost", "[I", false)
  | 1 => ("NobodyBeenAft$Course", "next", "[I", false)
  | _ => ("NobodyBeenAft$Open", "this$0", "LNobodyBeenAft;", true)
def tyX13r : Nat → FieldType := fun k => match k with
  | 0 => .array .int
  | 1 => .array .int
  | _ => .object "NobodyBeenAft"
theorem tyX13r_ok : ∀ k, k < 3 → parseFieldDescriptor (TX13r k).2.2.1 = some (tyX13r k) := by decide +kernel
theorem in_X13r : ∀ w ∈ u_ws RX13 TX13r 3, w ∈ lw_all := lw_in (u_ws RX13 TX13r 3) [859, 861, 857] (by decide +kernel) (by decide +kernel)
/-- NobodyBeenAft$Told till its Course has its this$0 -/
def TX14r : u_T := fun k => match k with
  | 0 => ("NobodyBeenAft$Course", "cost", "[I", false)
  | 1 => ("NobodyBeenAft$Course", "next", "[I", false)
  | 2 => ("NobodyBeenAft$Told", "told", "[I", true)
  | 3 => ("NobodyBeenAft$Told", "many", "I", false)
  | _ => ("NobodyBeenAft$Told", "this$0", "LNobodyBeenAft;", true)
def tyX14r : Nat → FieldType := fun k => match k with
  | 0 => .array .int
  | 1 => .array .int
  | 2 => .array .int
  | 3 => .int
  | _ => .object "NobodyBeenAft"
theorem tyX14r_ok : ∀ k, k < 5 → parseFieldDescriptor (TX14r k).2.2.1 = some (tyX14r k) := by decide +kernel
theorem in_X14r : ∀ w ∈ u_ws RX14 TX14r 5, w ∈ lw_all := lw_in (u_ws RX14 TX14r 5) [957, 958, 951, 953, 955] (by decide +kernel) (by decide +kernel)
/-- NobodyBeenAft$Late till its Course has its this$0 -/
def TX15r : u_T := fun k => match k with
  | 0 => ("NobodyBeenAft$Course", "cost", "[I", false)
  | 1 => ("NobodyBeenAft$Course", "next", "[I", false)
  | 2 => ("NobodyBeenAft$Late", "from", "I", false)
  | _ => ("NobodyBeenAft$Late", "this$0", "LNobodyBeenAft;", true)
def tyX15r : Nat → FieldType := fun k => match k with
  | 0 => .array .int
  | 1 => .array .int
  | 2 => .int
  | _ => .object "NobodyBeenAft"
theorem tyX15r_ok : ∀ k, k < 4 → parseFieldDescriptor (TX15r k).2.2.1 = some (tyX15r k) := by decide +kernel
theorem in_X15r : ∀ w ∈ u_ws RX15 TX15r 4, w ∈ lw_all := lw_in (u_ws RX15 TX15r 4) [992, 993, 988, 990] (by decide +kernel) (by decide +kernel)
def vcl : List vw_C := [(RX2, TX2, 9), (RX1, TX1, 28), (RX2, TX2, 9), (RX3, TX3, 53), (RX4, TX4, 4), (RX5, TX5, 4), (RX6, TX6r, 1), (RX8, TX8, 3), (RX8, TX8, 3), (RX9, TX9, 3), (RX10, TX10, 7), (RX11, TX11, 7), (RX12, TX12, 3), (RX13, TX13, 4), (RX14, TX14, 6), (RX15, TX15, 5), (RX16, TX16, 3), (RJ9, TJ9, 0), (RJ10, TJ10, 0), (RX2, TX2, 9), (RX2, TX2, 9), (RX2, TX2, 9), (RX2, TX2, 9), (RX2, TX2, 9), (RX2, TX2, 9), (RX2, TX2, 9), (RX2, TX2, 9), (RX2, TX2, 9), (RX2, TX2, 9), (RX2, TX2, 9), (RX2, TX2, 9), (RX2, TX2, 9), (RX2, TX2, 9), ("java/lang/String", TJ9, 0), (RX14, TX14r, 5), (RX15, TX15r, 4)]
/-- what a class's fields hold: ints (0), longs (1), references (2) -/
def vF (c : Nat) : List Nat := match c with
  | 0 => [2, 2, 2, 2, 0, 0, 0, 0, 0]
  | 1 => [2, 2, 2, 2, 2, 2, 2, 2, 0, 0, 0, 0, 0, 0, 0, 2, 0, 2, 0, 2, 0, 2, 2, 0, 0, 2, 2, 2]
  | 2 => [2, 2, 2, 2, 0, 0, 0, 0, 0]
  | 3 => [0, 0, 2, 0, 0, 0, 0, 0, 0, 2, 2, 2, 2, 2, 2, 2, 2, 0, 0, 0, 0, 2, 0, 2, 2, 0, 0, 2, 2, 0, 2, 0, 0, 2, 2, 0, 2, 2, 2, 1, 1, 2, 0, 2, 2, 2, 2, 2, 0, 0, 2, 2, 2]
  | 4 => [2, 0, 0, 0]
  | 5 => [2, 0, 0, 0]
  | 6 => [0]
  | 7 => [2, 2, 0]
  | 8 => [2, 2, 0]
  | 9 => [2, 2, 0]
  | 10 => [2, 0, 0, 0, 0, 0, 2]
  | 11 => [2, 0, 0, 0, 2, 2, 0]
  | 12 => [2, 2, 2]
  | 13 => [2, 2, 2, 2]
  | 14 => [2, 2, 2, 2, 0, 2]
  | 15 => [2, 2, 2, 0, 2]
  | 16 => [2, 0, 2]
  | 17 => []
  | 18 => []
  | 19 => [2, 2, 2, 2, 0, 0, 0, 0, 0]
  | 20 => [2, 2, 2, 2, 0, 0, 0, 0, 0]
  | 21 => [2, 2, 2, 2, 0, 0, 0, 0, 0]
  | 22 => [2, 2, 2, 2, 0, 0, 0, 0, 0]
  | 23 => [2, 2, 2, 2, 0, 0, 0, 0, 0]
  | 24 => [2, 2, 2, 2, 0, 0, 0, 0, 0]
  | 25 => [2, 2, 2, 2, 0, 0, 0, 0, 0]
  | 26 => [2, 2, 2, 2, 0, 0, 0, 0, 0]
  | 27 => [2, 2, 2, 2, 0, 0, 0, 0, 0]
  | 28 => [2, 2, 2, 2, 0, 0, 0, 0, 0]
  | 29 => [2, 2, 2, 2, 0, 0, 0, 0, 0]
  | 30 => [2, 2, 2, 2, 0, 0, 0, 0, 0]
  | 31 => [2, 2, 2, 2, 0, 0, 0, 0, 0]
  | 32 => [2, 2, 2, 2, 0, 0, 0, 0, 0]
  | 33 => []
  | 34 => [2, 2, 2, 0, 2]
  | 35 => [2, 2, 0, 2]
  | _ => []
def vtys (dA : Nat → ClassId) : List (ClassId × FieldType) := [(dA 101, .boolean), (dA 102, .byte), (dA 103, .char), (dA 104, .short), (dA 105, .int), (dA 106, .long), (dA 110, .object "NobodyBeenAft$Watch"), (dA 111, .object "NobodyBeenAft$Page"), (dA 112, .array .int), (dA 113, .array .long), (dA 114, .array .boolean)]
def vNestQ (w : Cond) : Bool := match w with
  | .fieldLinkNest .. => true
  | .methodLinkNest .. => true
  | .castable .. => true
  | .declares .. => true
  | _ => false
def vNest : List Cond := lw_tbl.filter vNestQ
theorem vNest_in {w : Cond} (h : w ∈ lw_tbl) (g : vNestQ w = true) : w ∈ vNest := List.mem_filter.mpr ⟨h, g⟩
theorem vNest_warm {s U : State} (hW : s.WarmedH U.vm) (h : ∀ w ∈ vNest, va_Nw w s) : ∀ w ∈ vNest, va_Nw w U := by
  intro w hw
  have h1 := h w hw
  have h2 := (List.mem_filter.mp hw).2
  cases w <;> first | exact va_Nw.warmF hW h1 | exact va_Nw.warmM hW h1 | exact va_Nw.warmC hW h1 | exact va_Nw.warmD hW h1 | (simp [vNestQ] at h2; done)
