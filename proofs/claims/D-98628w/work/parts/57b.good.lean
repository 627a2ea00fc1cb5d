/-! WHAT A STATE HOLDS BESIDES -/
def wrk (act : Int) (a b : Int32) : Int32 := if act = 0 then (if a < b then 1 else 0) else if act = 1 then (if b < a then 1 else 0) else if act = 2 then (if a = b then 1 else 0) else if act = 3 then a + b else if act = 4 then a - b else if act = 5 then a * b else if b = 0 then 0 else a / b
/-- a code at work on a stack -/
def stp (env : Nat → Int32) (c : Int) (st : List Int32) : Option (List Int32) :=
  if c < 1000 then some (i32 c :: st)
  else if c < 2000 then some (env (c - 1000).toNat :: st)
  else if c = 3000 then (match st with
    | a :: r => some (-a :: r)
    | [] => none)
  else (match st with
    | b :: a :: r => some (wrk (c - 2000) a b :: r)
    | _ => none)
def run (env : Nat → Int32) : List Int → List Int32 → Option (List Int32)
  | [], st => some st
  | c :: cs, st => (stp env c st).bind (run env cs)
def gCode (c : Int) : Prop := (0 ≤ c ∧ c < 1004) ∨ (2000 ≤ c ∧ c < 2007) ∨ c = 3000
def gRul (r : Rul) : Prop := r.1.length ≤ 80 ∧ (∀ c ∈ r.1, gCode c) ∧ (r.1 = [] ∨ ∀ env, ∃ v, run env r.1 [] = some [v])
def gShp (s : Shp) : Prop := 2 ≤ s.1 ∧ s.1 ≤ 40 ∧ s.2.1 ≤ 10 ∧ ∀ k, k < s.2.1 → 0 ≤ s.2.2.1 k ∧ s.2.2.1 k < 40
def gTxt (s : Txt) : Prop := s.1 ≤ 80 ∧ ∀ k, k < s.1 → 0 ≤ s.2 k ∧ s.2 k ≤ 255
def gSts (s : Sts) : Prop := s.length ≤ 12 ∧ (∀ q ∈ s, 0 ≤ q.1 ∧ q.1 ≤ 24 ∧ 0 ≤ q.2 ∧ q.2 ≤ 8) ∧ s.Pairwise (fun a b => a.1 ≠ b.1)
def gUnd (B : Int) (u : List Wt) : Prop := u.length ≤ 15 ∧ ∀ W ∈ u, gW B W
def gPgs (B : Int) (s : Pgs) : Prop := ∀ i q, s i = some q → gW B q.2.1
def gSt (B : Int) (S : St) : Prop := gShp S.shp ∧ gRck S.rck ∧ gMes S.mes ∧ gW B S.now ∧ gUnd B S.und ∧ gTxt S.txt ∧ S.row.1 ≤ 40 ∧ gRul S.rul ∧ gSts S.sts ∧ gPgs B S.pgs
section GST
variable {B : Int} {S : St}
theorem gSt.shp (g : gSt B S) : gShp S.shp := g.1
theorem gSt.rck (g : gSt B S) : gRck S.rck := g.2.1
theorem gSt.mes (g : gSt B S) : gMes S.mes := g.2.2.1
theorem gSt.now (g : gSt B S) : gW B S.now := g.2.2.2.1
theorem gSt.und (g : gSt B S) : gUnd B S.und := g.2.2.2.2.1
theorem gSt.txt (g : gSt B S) : gTxt S.txt := g.2.2.2.2.2.1
theorem gSt.row (g : gSt B S) : S.row.1 ≤ 40 := g.2.2.2.2.2.2.1
theorem gSt.rul (g : gSt B S) : gRul S.rul := g.2.2.2.2.2.2.2.1
theorem gSt.sts (g : gSt B S) : gSts S.sts := g.2.2.2.2.2.2.2.2.1
theorem gSt.pgs (g : gSt B S) : gPgs B S.pgs := g.2.2.2.2.2.2.2.2.2
theorem gW.up {B B' : Int} {W : Wt} (g : gW B W) (h : B ≤ B') : gW B' W := ⟨⟨g.1.1, Int.le_trans g.1.2.1 h, g.1.2.2⟩, g.2⟩
theorem gW.len {B : Int} {W : Wt} (g : gW B W) : W.ways.length ≤ 12 := g.1.2.2.2.2.2.2
theorem gSt.up {B' : Int} (g : gSt B S) (h : B ≤ B') : gSt B' S := ⟨g.shp, g.rck, g.mes, g.now.up h, ⟨g.und.1, fun W q => (g.und.2 W q).up h⟩, g.txt, g.row, g.rul, g.sts, fun i q e => (g.pgs i q e).up h⟩
end GST
