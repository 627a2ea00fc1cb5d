/-! THE COMPONENT, when one piece of its state changes; printed by gen/crup.py -/
set_option maxRecDepth 100000
section CRU
variable {S : St} {σ σ' : vMem} {c z : Nat}
theorem RC.lay (h : RC S σ) : CLX σ := h.1
theorem RC.cl (h : RC S σ) : CL σ := h.1.1.1
theorem RC.mn (h : RC S σ) : 192 ≤ mn σ := h.1.1.2
theorem RC.w1 (h : RC S σ) : WL σ 1 := h.1.2.1
theorem RC.w6 (h : RC S σ) : WL σ 6 := h.1.2.2.1
theorem RC.w11 (h : RC S σ) : WL σ 11 := h.1.2.2.2
theorem RC.shp (h : RC S σ) : cShp S.shp σ := h.2.1
theorem RC.rck (h : RC S σ) : cRck S.rck σ := h.2.2.1
theorem RC.mes (h : RC S σ) : cMes S.mes σ := h.2.2.2.1
theorem RC.now (h : RC S σ) : WC σ 1 S.now := h.2.2.2.2.1
theorem RC.und (h : RC S σ) : cUnd S.und σ := h.2.2.2.2.2.1
theorem RC.txt (h : RC S σ) : cTxt S.txt σ := h.2.2.2.2.2.2.1
theorem RC.row (h : RC S σ) : cRow S.row σ := h.2.2.2.2.2.2.2.1
theorem RC.rul (h : RC S σ) : cRul S.rul σ := h.2.2.2.2.2.2.2.2.1
theorem RC.sts (h : RC S σ) : cSts S.sts σ := h.2.2.2.2.2.2.2.2.2.1
theorem RC.pgs (h : RC S σ) : cPgs S.pgs σ := h.2.2.2.2.2.2.2.2.2.2
theorem RC.rr (h : RC S σ) : RR S.rul.2 σ := h.rul.rr
theorem RC.u0 (h : RC S σ) (hu : S.und.length ≤ 15) (F : Fr (KX [20] S.rul.2) c z σ σ') : RC S σ' := ⟨h.lay.fr F (by decide), h.shp.fr F h.mn (by decide), h.rck.fr F h.mn (by decide), h.mes.fr F h.mn (by decide), h.now.fr1 F h.mn (by decide), h.und.fr F h.mn (by decide) hu, h.txt.fr F h.mn (by decide), h.row.fr F h.mn (by decide), h.rul.fr F h.mn (by decide) (by decide) h.rr, h.sts.fr F h.mn (by decide), h.pgs.fr F h.mn (by decide) (by decide) h.rr⟩
theorem RC.uShp (h : RC S σ) (hu : S.und.length ≤ 15) (F : Fr (KX [20, 21] S.rul.2) c z σ σ') {x} (hx : cShp x σ') : RC (S.wShp x) σ' := ⟨h.lay.fr F (by decide), hx, h.rck.fr F h.mn (by decide), h.mes.fr F h.mn (by decide), h.now.fr1 F h.mn (by decide), h.und.fr F h.mn (by decide) hu, h.txt.fr F h.mn (by decide), h.row.fr F h.mn (by decide), h.rul.fr F h.mn (by decide) (by decide) h.rr, h.sts.fr F h.mn (by decide), h.pgs.fr F h.mn (by decide) (by decide) h.rr⟩
theorem RC.uRck (h : RC S σ) (hu : S.und.length ≤ 15) (F : Fr (KX [20, 22] S.rul.2) c z σ σ') {x} (hx : cRck x σ') : RC (S.wRck x) σ' := ⟨h.lay.fr F (by decide), h.shp.fr F h.mn (by decide), hx, h.mes.fr F h.mn (by decide), h.now.fr1 F h.mn (by decide), h.und.fr F h.mn (by decide) hu, h.txt.fr F h.mn (by decide), h.row.fr F h.mn (by decide), h.rul.fr F h.mn (by decide) (by decide) h.rr, h.sts.fr F h.mn (by decide), h.pgs.fr F h.mn (by decide) (by decide) h.rr⟩
theorem RC.uMes (h : RC S σ) (hu : S.und.length ≤ 15) (F : Fr (KX [20, 23] S.rul.2) c z σ σ') {x} (hx : cMes x σ') : RC (S.wMes x) σ' := ⟨h.lay.fr F (by decide), h.shp.fr F h.mn (by decide), h.rck.fr F h.mn (by decide), hx, h.now.fr1 F h.mn (by decide), h.und.fr F h.mn (by decide) hu, h.txt.fr F h.mn (by decide), h.row.fr F h.mn (by decide), h.rul.fr F h.mn (by decide) (by decide) h.rr, h.sts.fr F h.mn (by decide), h.pgs.fr F h.mn (by decide) (by decide) h.rr⟩
theorem RC.uNow (h : RC S σ) (hu : S.und.length ≤ 15) (F : Fr (KX [20, 24] S.rul.2) c z σ σ') {x} (hx : WC σ' 1 x) : RC (S.wNow x) σ' := ⟨h.lay.fr F (by decide), h.shp.fr F h.mn (by decide), h.rck.fr F h.mn (by decide), h.mes.fr F h.mn (by decide), hx, h.und.fr F h.mn (by decide) hu, h.txt.fr F h.mn (by decide), h.row.fr F h.mn (by decide), h.rul.fr F h.mn (by decide) (by decide) h.rr, h.sts.fr F h.mn (by decide), h.pgs.fr F h.mn (by decide) (by decide) h.rr⟩
theorem RC.uUnd (h : RC S σ) (F : Fr (KX [20, 25] S.rul.2) c z σ σ') {x} (hx : cUnd x σ') : RC (S.wUnd x) σ' := ⟨h.lay.fr F (by decide), h.shp.fr F h.mn (by decide), h.rck.fr F h.mn (by decide), h.mes.fr F h.mn (by decide), h.now.fr1 F h.mn (by decide), hx, h.txt.fr F h.mn (by decide), h.row.fr F h.mn (by decide), h.rul.fr F h.mn (by decide) (by decide) h.rr, h.sts.fr F h.mn (by decide), h.pgs.fr F h.mn (by decide) (by decide) h.rr⟩
theorem RC.uTxt (h : RC S σ) (hu : S.und.length ≤ 15) (F : Fr (KX [20, 26] S.rul.2) c z σ σ') {x} (hx : cTxt x σ') : RC (S.wTxt x) σ' := ⟨h.lay.fr F (by decide), h.shp.fr F h.mn (by decide), h.rck.fr F h.mn (by decide), h.mes.fr F h.mn (by decide), h.now.fr1 F h.mn (by decide), h.und.fr F h.mn (by decide) hu, hx, h.row.fr F h.mn (by decide), h.rul.fr F h.mn (by decide) (by decide) h.rr, h.sts.fr F h.mn (by decide), h.pgs.fr F h.mn (by decide) (by decide) h.rr⟩
theorem RC.uRow (h : RC S σ) (hu : S.und.length ≤ 15) (F : Fr (KX [20, 27] S.rul.2) c z σ σ') {x} (hx : cRow x σ') : RC (S.wRow x) σ' := ⟨h.lay.fr F (by decide), h.shp.fr F h.mn (by decide), h.rck.fr F h.mn (by decide), h.mes.fr F h.mn (by decide), h.now.fr1 F h.mn (by decide), h.und.fr F h.mn (by decide) hu, h.txt.fr F h.mn (by decide), hx, h.rul.fr F h.mn (by decide) (by decide) h.rr, h.sts.fr F h.mn (by decide), h.pgs.fr F h.mn (by decide) (by decide) h.rr⟩
theorem RC.uSts (h : RC S σ) (hu : S.und.length ≤ 15) (F : Fr (KX [20, 29] S.rul.2) c z σ σ') {x} (hx : cSts x σ') : RC (S.wSts x) σ' := ⟨h.lay.fr F (by decide), h.shp.fr F h.mn (by decide), h.rck.fr F h.mn (by decide), h.mes.fr F h.mn (by decide), h.now.fr1 F h.mn (by decide), h.und.fr F h.mn (by decide) hu, h.txt.fr F h.mn (by decide), h.row.fr F h.mn (by decide), h.rul.fr F h.mn (by decide) (by decide) h.rr, hx, h.pgs.fr F h.mn (by decide) (by decide) h.rr⟩
theorem RC.uPgs (h : RC S σ) (hu : S.und.length ≤ 15) (F : Fr (KX [20, 30] S.rul.2) c z σ σ') {x} (hx : cPgs x σ') : RC (S.wPgs x) σ' := ⟨h.lay.fr F (by decide), h.shp.fr F h.mn (by decide), h.rck.fr F h.mn (by decide), h.mes.fr F h.mn (by decide), h.now.fr1 F h.mn (by decide), h.und.fr F h.mn (by decide) hu, h.txt.fr F h.mn (by decide), h.row.fr F h.mn (by decide), h.rul.fr F h.mn (by decide) (by decide) h.rr, h.sts.fr F h.mn (by decide), hx⟩
theorem RC.uRul (h : RC S σ) (hu : S.und.length ≤ 15) (F : Fr (KX [20, 26, 28] 0) c z σ σ') {x y} (hx : cRul x σ') (hy : cTxt y σ') : RC ((S.wTxt y).wRul x) σ' := ⟨h.lay.fr F (by decide), h.shp.fr F h.mn (by decide), h.rck.fr F h.mn (by decide), h.mes.fr F h.mn (by decide), h.now.fr1 F h.mn (by decide), h.und.fr F h.mn (by decide) hu, hy, h.row.fr F h.mn (by decide), hx, h.sts.fr F h.mn (by decide), h.pgs.fr F h.mn (by decide) (by decide) (Or.inl rfl)⟩
theorem RC.byM (h : RC S σ) (hu : S.und.length ≤ 15) (F : Fr (KM RSM) c z σ σ') : RC S σ' := by
  have F : Fr (KX RSM S.rul.2) c z σ σ' := F.toX
  exact ⟨h.lay.fr F (by decide), h.shp.fr F h.mn (by decide), h.rck.fr F h.mn (by decide), h.mes.fr F h.mn (by decide), h.now.fr1 F h.mn (by decide), h.und.fr F h.mn (by decide) hu, h.txt.fr F h.mn (by decide), h.row.fr F h.mn (by decide), h.rul.fr F h.mn (by decide) (by decide) h.rr, h.sts.fr F h.mn (by decide), h.pgs.fr F h.mn (by decide) (by decide) h.rr⟩
def RSX : List Nat := [20, 21, 22, 23, 24, 25, 26, 27, 28, 29, 30]
theorem RM.byC (h : RM S σ) {r : Nat} (F : Fr (KX RSX r) c z σ σ') : RM S σ' := by
  have F := F.toM
  exact ⟨ML.fr h.1 F (by decide), h.shp.fr F h.mn (by decide), h.rck.fr F h.mn (by decide), h.mes.fr F h.mn (by decide), h.now.fr F (by have := h.mn; omega) (fun _ => (by decide : 4 ∉ (40 :: RSX))), h.und.fr F h.mn (by decide), h.txt.fr F h.mn (by decide), h.row.fr F h.mn (by decide), h.rul.fr F h.mn (by decide), h.sts.fr F h.mn (by decide), h.pgs.fr F h.mn (by decide)⟩
theorem Fr.rsx {rs : List Nat} {r : Nat} (F : Fr (KX rs r) c z σ σ') (h : ∀ x ∈ rs, x ∈ RSX) : Fr (KX RSX r) c z σ σ' := F.subX h
end CRU
