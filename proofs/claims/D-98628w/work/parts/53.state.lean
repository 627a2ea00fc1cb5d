/-! THE STATE that both sides stand for -/
set_option maxRecDepth 100000
/-- an order under way: when it is due, what it is at the helm, when it was given -/
abbrev Od : Type := Int × Int × Int
/-- a watch: step, lane, hits, the step of the last order, orders as they were given, food, hungry -/
abbrev Wt : Type := Int × Int × Int32 × Int × List Od × (Nat → Int) × (Nat → Int32)
def Wt.now (W : Wt) : Int := W.1
def Wt.lane (W : Wt) : Int := W.2.1
def Wt.hits (W : Wt) : Int32 := W.2.2.1
def Wt.given (W : Wt) : Int := W.2.2.2.1
def Wt.ways (W : Wt) : List Od := W.2.2.2.2.1
def Wt.food (W : Wt) : Nat → Int := W.2.2.2.2.2.1
def Wt.hung (W : Wt) : Nat → Int32 := W.2.2.2.2.2.2
/-- an order among others, behind those that are due no later -/
def ins (x : Od) : List Od → List Od
  | [] => [x]
  | y :: l => if x.1 < y.1 then x :: y :: l else y :: ins x l
def srt (l : List Od) : List Od := l.foldl (fun a x => ins x a) []
/-- how long, how many posts, their cells, whether they lie -/
abbrev Shp : Type := Int × Nat × (Nat → Int) × (Nat → Bool)
abbrev Rck : Type := Nat × (Nat → Int) × (Nat → Int)
abbrev Mes : Type := Nat × (Nat → Int) × Int32
abbrev Txt : Type := Nat × (Nat → Int)
abbrev Row : Type := Nat × (Nat → Int64)
/-- the codes of the rule; where the component keeps its own -/
abbrev Rul : Type := List Int × Nat
abbrev Sts : Type := List (Int × Int)
abbrev Pgs : Type := Nat → Option (Nat × Wt × Int32)
abbrev St : Type := Shp × Rck × Mes × Wt × List Wt × Txt × Row × Rul × Sts × Pgs
def St.shp (S : St) : Shp := S.1
def St.rck (S : St) : Rck := S.2.1
def St.mes (S : St) : Mes := S.2.2.1
def St.now (S : St) : Wt := S.2.2.2.1
def St.und (S : St) : List Wt := S.2.2.2.2.1
def St.txt (S : St) : Txt := S.2.2.2.2.2.1
def St.row (S : St) : Row := S.2.2.2.2.2.2.1
def St.rul (S : St) : Rul := S.2.2.2.2.2.2.2.1
def St.sts (S : St) : Sts := S.2.2.2.2.2.2.2.2.1
def St.pgs (S : St) : Pgs := S.2.2.2.2.2.2.2.2.2
def St.wShp (S : St) (x : Shp) : St := (x, S.2)
def St.wRck (S : St) (x : Rck) : St := (S.1, x, S.2.2)
def St.wMes (S : St) (x : Mes) : St := (S.1, S.2.1, x, S.2.2.2)
def St.wNow (S : St) (x : Wt) : St := (S.1, S.2.1, S.2.2.1, x, S.2.2.2.2)
def St.wUnd (S : St) (x : List Wt) : St := (S.1, S.2.1, S.2.2.1, S.2.2.2.1, x, S.2.2.2.2.2)
def St.wTxt (S : St) (x : Txt) : St := (S.1, S.2.1, S.2.2.1, S.2.2.2.1, S.2.2.2.2.1, x, S.2.2.2.2.2.2)
def St.wRow (S : St) (x : Row) : St := (S.1, S.2.1, S.2.2.1, S.2.2.2.1, S.2.2.2.2.1, S.2.2.2.2.2.1, x, S.2.2.2.2.2.2.2)
def St.wRul (S : St) (x : Rul) : St := (S.1, S.2.1, S.2.2.1, S.2.2.2.1, S.2.2.2.2.1, S.2.2.2.2.2.1, S.2.2.2.2.2.2.1, x, S.2.2.2.2.2.2.2.2)
def St.wSts (S : St) (x : Sts) : St := (S.1, S.2.1, S.2.2.1, S.2.2.2.1, S.2.2.2.2.1, S.2.2.2.2.2.1, S.2.2.2.2.2.2.1, S.2.2.2.2.2.2.2.1, x, S.2.2.2.2.2.2.2.2.2)
def St.wPgs (S : St) (x : Pgs) : St := (S.1, S.2.1, S.2.2.1, S.2.2.2.1, S.2.2.2.2.1, S.2.2.2.2.2.1, S.2.2.2.2.2.2.1, S.2.2.2.2.2.2.2.1, S.2.2.2.2.2.2.2.2.1, x)
/-! PLACES, by what they belong to: 1..10 the model's ship, rocks, messes, watch, undo, text, row, rule, sights, pages, 0 its scratch, 11 its references; 20.. the component's likewise -/
def FMr : List Nat := [0, 7, 11, 1, 1, 1, 2, 3, 3, 11, 11, 11, 11, 11, 11, 11, 11, 6, 0, 0, 0, 11, 0, 11, 11, 8, 0, 11, 11, 5, 11, 0, 0, 11, 11, 0, 11, 11, 11, 0, 0, 11, 9, 11, 11, 11, 11, 11, 0, 0, 11, 11, 11]
def FCr : List Nat := [31, 31, 31, 31, 31, 31, 31, 31, 21, 21, 21, 22, 23, 23, 25, 31, 26, 31, 27, 28, 20, 31, 31, 29, 29, 31, 31, 31]
def reg (a k : Nat) : Nat :=
  if a = 161 then FMr.getD k 0
  else if a = 0 then FCr.getD k 20
  else if a = 1 then (if k < 4 then 31 else 24)
  else if a < 6 then 24
  else if a = 6 then (if k < 4 then 31 else 20)
  else if a < 11 then 20
  else if a = 11 then (if k < 4 then 31 else 20)
  else if a < 16 then 20
  else if a = 16 then 25
  else if a = 17 then 21
  else if a < 20 then 22
  else if a = 20 then 23
  else if a = 21 then 26
  else if a = 22 then 27
  else if a = 23 then 31
  else if a < 32 then 20
  else if a = 32 then 29
  else if a = 33 then 31
  else if a < 59 then 20
  else if a = 59 then 31
  else if a < 85 then 20
  else if a = 85 then 30
  else if a < 161 then 25
  else if a = 162 then 7
  else if a < 165 then 1
  else if a < 167 then 2
  else if a = 167 then 3
  else if a = 168 then 4
  else if a = 169 then 0
  else if a = 170 then 6
  else if a = 171 then 0
  else if a = 172 then 8
  else if a < 176 then 0
  else if a = 176 then 5
  else if a < 183 then 0
  else if a < 185 then 9
  else if a < 188 then 0
  else if a < 191 then 10
  else if a = 191 then 12
  else 40
def KM (rs : List Nat) (a k : Nat) : Prop := reg a k ∉ rs
def KC (rs : List Nat) (r a k : Nat) : Prop := reg a k ∉ rs ∧ a ≠ r
theorem reg_0 {a : Nat} (k : Nat) (h0 : a ≠ 0) (h1 : a ≠ 1) (h6 : a ≠ 6) (h11 : a ≠ 11) (h161 : a ≠ 161) : reg a k = reg a 0 := by
  simp only [reg, h161, h0, h1, h6, h11, if_false]
theorem reg_dyn {a : Nat} (k : Nat) (h : 192 ≤ a) : reg a k = 40 := by
  unfold reg
  repeat (rw [if_neg (by omega)])
theorem reg_M {a : Nat} (k : Nat) (h1 : 161 ≤ a) (h2 : a < 191) : reg a k < 12 := by
  by_cases h : a = 161
  · subst h
    show FMr.getD k 0 < 12
    by_cases hk : k < 53
    · have : ∀ k, k < 53 → FMr.getD k 0 < 12 := by decide
      exact this k hk
    · rw [List.getD_eq_getElem?_getD, List.getElem?_eq_none (by show 53 ≤ k; omega)]
      decide
  · have h9 : ∀ a, a < 191 → 162 ≤ a → reg a 0 < 12 := by decide
    rw [reg_0 k (by omega) (by omega) (by omega) (by omega) h]
    exact h9 a h2 (by omega)
theorem reg_C {a : Nat} (k : Nat) (h : a < 161 ∨ 191 ≤ a) : 12 ≤ reg a k := by
  by_cases h0 : a = 0
  · subst h0
    show 12 ≤ FCr.getD k 20
    by_cases hk : k < 28
    · have : ∀ k, k < 28 → 12 ≤ FCr.getD k 20 := by decide
      exact this k hk
    · rw [List.getD_eq_getElem?_getD, List.getElem?_eq_none (by show 28 ≤ k; omega)]
      decide
  · by_cases h1 : a = 1
    · subst h1; show 12 ≤ if k < 4 then 31 else 24; split <;> decide
    · by_cases h6 : a = 6
      · subst h6; show 12 ≤ if k < 4 then 31 else 20; split <;> decide
      · by_cases h11 : a = 11
        · subst h11; show 12 ≤ if k < 4 then 31 else 20; split <;> decide
        · by_cases h192 : 192 ≤ a
          · rw [reg_dyn k h192]; decide
          · have h9 : ∀ a, a < 192 → (a < 161 ∨ 191 ≤ a) → 12 ≤ reg a 0 := by decide
            rw [reg_0 k h0 h1 h6 h11 (by omega)]
            exact h9 a (by omega) h
/-! what the model's cells say of it -/
def RowIs (W : Wt) (f : Nat → Int32) : Prop := f 0 = i32 W.now ∧ f 1 = i32 W.lane ∧ f 2 = W.hits ∧ f 3 = i32 W.ways.length ∧ f 4 = i32 W.given ∧ (∀ (k : Nat) (q : Od), W.ways[k]? = some q → f (5 + 3 * k) = i32 q.1 ∧ f (5 + 3 * k + 1) = i32 q.2.1 ∧ f (5 + 3 * k + 2) = i32 q.2.2) ∧ ∀ m, m < 8 → f (41 + m) = i32 (W.food m) ∧ f (49 + m) = W.hung m
theorem RowIs.eq {W : Wt} {f g : Nat → Int32} (h : RowIs W f) (hw : W.ways.length ≤ 12) (he : ∀ j, j < 57 → g j = f j) : RowIs W g := by
  obtain ⟨h1, h2, h3, h4, h5, h6, h7⟩ := h
  refine ⟨by rw [he _ (by omega)]; exact h1, by rw [he _ (by omega)]; exact h2, by rw [he _ (by omega)]; exact h3, by rw [he _ (by omega)]; exact h4, by rw [he _ (by omega)]; exact h5, fun k q hk => ?_, fun m hm => ?_⟩
  · have h8 : k < W.ways.length := by
      by_cases h9 : k < W.ways.length
      · exact h9
      · rw [List.getElem?_eq_none (by omega)] at hk; cases hk
    rw [he _ (by omega), he _ (by omega), he _ (by omega)]
    exact h6 k q hk
  · rw [he _ (by omega), he _ (by omega)]
    exact h7 m hm
def WM (σ : vMem) (a b : Nat) (W : Wt) : Prop := RowIs W (fun j => gi σ a (b + j))
/-- how many lie -/
def liars (s : Shp) : Nat → Int
  | 0 => 0
  | n + 1 => liars s n + if s.2.2.2 n then 1 else 0
def mShp (s : Shp) (σ : vMem) : Prop := gi σ 161 3 = i32 s.1 ∧ gi σ 161 4 = i32 s.2.1 ∧ gi σ 161 5 = i32 (liars s s.2.1) ∧ ∀ k, k < s.2.1 → gi σ 163 k = i32 (s.2.2.1 k) ∧ gi σ 164 k = if s.2.2.2 k then 1 else 0
def mRck (s : Rck) (σ : vMem) : Prop := gi σ 161 6 = i32 s.1 ∧ ∀ k, k < s.1 → gi σ 165 k = i32 (s.2.1 k) ∧ gi σ 166 k = i32 (s.2.2 k)
def mMes (s : Mes) (σ : vMem) : Prop := gi σ 161 7 = i32 s.1 ∧ gi σ 161 8 = s.2.2 ∧ ∀ k, k < s.1 → gi σ 167 k = i32 (s.2.1 k)
def mUnd (u : List Wt) (σ : vMem) : Prop := gi σ 161 29 = i32 u.length ∧ ∀ k W, u[k]? = some W → WM σ 176 (57 * k) W
def mTxt (s : Txt) (σ : vMem) : Prop := gi σ 161 17 = i32 s.1 ∧ ∀ k, k < s.1 → gi σ 170 k = i32 (s.2 k)
def mRow (s : Row) (σ : vMem) : Prop := gi σ 161 1 = i32 s.1 ∧ ∀ k, k < s.1 → gl σ 162 k = s.2 k
def mRul (s : Rul) (σ : vMem) : Prop := gi σ 161 25 = i32 s.1.length ∧ ∀ k c, s.1[k]? = some c → gi σ 172 k = i32 c
def mSts (s : Sts) (σ : vMem) : Prop := gi σ 161 42 = i32 s.length ∧ ∀ k q, s[k]? = some q → gi σ 183 k = i32 q.1 ∧ gi σ 184 k = i32 q.2
def mPgs (s : Pgs) (σ : vMem) : Prop := ∀ i, i < 3 → match s i with
  | none => gi σ 188 i = 0
  | some q => gi σ 188 i = 1 ∧ gi σ 189 i = q.2.2 ∧ WM σ 190 (57 * i) q.2.1
def RM (S : St) (σ : vMem) : Prop := (ML σ ∧ 192 ≤ mn σ) ∧ mShp S.shp σ ∧ mRck S.rck σ ∧ mMes S.mes σ ∧ RowIs S.now (gi σ 168) ∧ mUnd S.und σ ∧ mTxt S.txt σ ∧ mRow S.row σ ∧ mRul S.rul σ ∧ mSts S.sts σ ∧ mPgs S.pgs σ
section MFR
variable {rs : List Nat} {c z : Nat} {σ σ' : vMem}
theorem Fr.sub {rs' : List Nat} (F : Fr (KM rs) c z σ σ') (h : ∀ x ∈ rs, x ∈ rs') : Fr (KM rs') c z σ σ' := F.mono (fun _ _ q q' => q (h _ q'))
theorem Fr.wm {a k : Nat} {v : Int32} (F : Fr (KM rs) c z σ σ') (t : Nat) (h : reg a k = t) (ht : t ∈ rs) : Fr (KM rs) c z σ (si σ' a k v) := F.wi (fun q => q (by rw [h]; exact ht))
theorem Fr.wml {a k : Nat} {v : Int64} (F : Fr (KM rs) c z σ σ') (t : Nat) (h : reg a k = t) (ht : t ∈ rs) : Fr (KM rs) c z σ (sl σ' a k v) := F.wl (fun q => q (by rw [h]; exact ht))
theorem Fr.gM (F : Fr (KM rs) c z σ σ') {t : Nat} (hr : t ∉ rs) (a k : Nat) (ha : a < mn σ) (h : reg a k = t) : gi σ' a k = gi σ a k := F.i ha (by unfold KM; rw [h]; exact hr)
theorem Fr.lM (F : Fr (KM rs) c z σ σ') {t : Nat} (hr : t ∉ rs) (a k : Nat) (ha : a < mn σ) (h : reg a k = t) : gl σ' a k = gl σ a k := F.l ha (by unfold KM; rw [h]; exact hr)
theorem ML.fr (h : ML σ ∧ 192 ≤ mn σ) (F : Fr (KM rs) c z σ σ') (hr : 11 ∉ rs) : ML σ' ∧ 192 ≤ mn σ' := by
  have hn := h.2
  refine ⟨⟨?_, fun q hq => ?_⟩, Nat.le_trans hn F.n⟩
  · rw [F.kn (by omega)]; exact h.1.1
  · have h1 := h.1.2 q hq
    have h2 : reg 161 q.1 = 11 ∧ q.2.1 < 192 := by
      have : ∀ q ∈ MLT, reg 161 q.1 = 11 ∧ q.2.1 < 192 := by decide
      exact this q hq
    rw [F.r (by omega) (by unfold KM; rw [h2.1]; exact hr), F.sh (by omega)]
    exact h1
theorem WM.fr {a b : Nat} {W : Wt} (h : WM σ a b W) (F : Fr (KM rs) c z σ σ') (ha : a < mn σ) (hr : ∀ k, reg a k ∉ rs) : WM σ' a b W := by
  have e : ∀ k, gi σ' a k = gi σ a k := fun k => F.i ha (hr k)
  unfold WM
  simp only [e]
  exact h
theorem WM.frt {a b : Nat} {W : Wt} (h : WM σ a b W) (F : Fr (KM rs) c z σ σ') (ha : a < mn σ) (t : Nat) (ht : t ∉ rs) (h9 : ∀ k, reg a k = t) : WM σ' a b W := h.fr F ha (fun k => by rw [h9]; exact ht)
theorem RowIs.fr {a : Nat} {W : Wt} (h : RowIs W (gi σ a)) (F : Fr (KM rs) c z σ σ') (ha : a < mn σ) (hr : ∀ k, reg a k ∉ rs) : RowIs W (gi σ' a) := by
  have e : gi σ' a = gi σ a := funext fun k => F.i ha (hr k)
  rw [e]
  exact h
theorem mShp.fr {s : Shp} (h : mShp s σ) (F : Fr (KM rs) c z σ σ') (hn : 192 ≤ mn σ) (hr : 1 ∉ rs) : mShp s σ' := by
  unfold mShp
  rw [F.gM hr 161 3 (by omega) rfl, F.gM hr 161 4 (by omega) rfl, F.gM hr 161 5 (by omega) rfl]
  exact ⟨h.1, h.2.1, h.2.2.1, fun k hk => by rw [F.gM hr 163 k (by omega) rfl, F.gM hr 164 k (by omega) rfl]; exact h.2.2.2 k hk⟩
theorem mRck.fr {s : Rck} (h : mRck s σ) (F : Fr (KM rs) c z σ σ') (hn : 192 ≤ mn σ) (hr : 2 ∉ rs) : mRck s σ' := by
  unfold mRck
  rw [F.gM hr 161 6 (by omega) rfl]
  exact ⟨h.1, fun k hk => by rw [F.gM hr 165 k (by omega) rfl, F.gM hr 166 k (by omega) rfl]; exact h.2 k hk⟩
theorem mMes.fr {s : Mes} (h : mMes s σ) (F : Fr (KM rs) c z σ σ') (hn : 192 ≤ mn σ) (hr : 3 ∉ rs) : mMes s σ' := by
  unfold mMes
  rw [F.gM hr 161 7 (by omega) rfl, F.gM hr 161 8 (by omega) rfl]
  exact ⟨h.1, h.2.1, fun k hk => by rw [F.gM hr 167 k (by omega) rfl]; exact h.2.2 k hk⟩
theorem mUnd.fr {s : List Wt} (h : mUnd s σ) (F : Fr (KM rs) c z σ σ') (hn : 192 ≤ mn σ) (hr : 5 ∉ rs) : mUnd s σ' := by
  unfold mUnd
  rw [F.gM hr 161 29 (by omega) rfl]
  exact ⟨h.1, fun k W hk => (h.2 k W hk).fr F (by omega) (fun _ => hr)⟩
theorem mTxt.fr {s : Txt} (h : mTxt s σ) (F : Fr (KM rs) c z σ σ') (hn : 192 ≤ mn σ) (hr : 6 ∉ rs) : mTxt s σ' := by
  unfold mTxt
  rw [F.gM hr 161 17 (by omega) rfl]
  exact ⟨h.1, fun k hk => by rw [F.gM hr 170 k (by omega) rfl]; exact h.2 k hk⟩
theorem mRow.fr {s : Row} (h : mRow s σ) (F : Fr (KM rs) c z σ σ') (hn : 192 ≤ mn σ) (hr : 7 ∉ rs) : mRow s σ' := by
  unfold mRow
  rw [F.gM hr 161 1 (by omega) rfl]
  exact ⟨h.1, fun k hk => by rw [F.lM hr 162 k (by omega) rfl]; exact h.2 k hk⟩
theorem mRul.fr {s : Rul} (h : mRul s σ) (F : Fr (KM rs) c z σ σ') (hn : 192 ≤ mn σ) (hr : 8 ∉ rs) : mRul s σ' := by
  unfold mRul
  rw [F.gM hr 161 25 (by omega) rfl]
  exact ⟨h.1, fun k c hk => by rw [F.gM hr 172 k (by omega) rfl]; exact h.2 k c hk⟩
theorem mSts.fr {s : Sts} (h : mSts s σ) (F : Fr (KM rs) c z σ σ') (hn : 192 ≤ mn σ) (hr : 9 ∉ rs) : mSts s σ' := by
  unfold mSts
  rw [F.gM hr 161 42 (by omega) rfl]
  exact ⟨h.1, fun k q hk => by rw [F.gM hr 183 k (by omega) rfl, F.gM hr 184 k (by omega) rfl]; exact h.2 k q hk⟩
theorem mPgs.fr {s : Pgs} (h : mPgs s σ) (F : Fr (KM rs) c z σ σ') (hn : 192 ≤ mn σ) (hr : 10 ∉ rs) : mPgs s σ' := by
  intro i hi
  have h1 := h i hi
  cases hs : s i with
  | none =>
    rw [hs] at h1
    show gi σ' 188 i = 0
    rw [F.gM hr 188 i (by omega) rfl]
    exact h1
  | some q =>
    rw [hs] at h1
    show gi σ' 188 i = 1 ∧ gi σ' 189 i = q.2.2 ∧ WM σ' 190 (57 * i) q.2.1
    rw [F.gM hr 188 i (by omega) rfl, F.gM hr 189 i (by omega) rfl]
    exact ⟨h1.1, h1.2.1, h1.2.2.fr F (by omega) (fun _ => hr)⟩
end MFR
