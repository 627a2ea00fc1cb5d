/-! LAYOUTS of the fixed objects, printed by gen/plain.py -/
set_option maxRecDepth 100000
def MLT : List (Nat × Nat × Nat × Nat) := [(2, 162, 106, 40), (9, 163, 105, 10), (10, 164, 101, 10), (11, 165, 105, 16), (12, 166, 105, 16), (13, 167, 105, 8), (14, 168, 105, 57), (15, 169, 105, 57), (16, 170, 105, 80), (21, 171, 105, 32), (23, 172, 105, 80), (24, 173, 105, 80), (27, 174, 105, 80), (28, 175, 105, 4), (30, 176, 105, 912), (33, 177, 105, 60), (34, 178, 105, 60), (36, 179, 105, 30), (37, 180, 105, 9), (38, 181, 105, 9), (41, 182, 105, 14409), (43, 183, 105, 12), (44, 184, 105, 12), (45, 185, 105, 225), (46, 186, 101, 225), (47, 187, 101, 225), (50, 188, 101, 3), (51, 189, 105, 3), (52, 190, 105, 171)]
/-- by references and shapes alone -/
def ML (σ : vMem) : Prop := knd σ 161 = 3 ∧ ∀ q ∈ MLT, gr σ 161 q.1 = some q.2.1 ∧ σ.2.2.2.1 q.2.1 = (q.2.2.1, q.2.2.2)
theorem ML.k {σ : vMem} (h : ML σ) : knd σ 161 = 3 := h.1
theorem ML.r2 {σ : vMem} (h : ML σ) : gr σ 161 2 = some 162 := (h.2 (2, 162, 106, 40) (by decide)).1
theorem ML.s162 {σ : vMem} (h : ML σ) : σ.2.2.2.1 162 = (106, 40) := (h.2 (2, 162, 106, 40) (by decide)).2
theorem ML.k162 {σ : vMem} (h : ML σ) : knd σ 162 = 106 := by unfold knd; rw [h.s162]
theorem ML.l162 {σ : vMem} (h : ML σ) : len σ 162 = 40 := by unfold len; rw [h.s162]
theorem ML.r9 {σ : vMem} (h : ML σ) : gr σ 161 9 = some 163 := (h.2 (9, 163, 105, 10) (by decide)).1
theorem ML.s163 {σ : vMem} (h : ML σ) : σ.2.2.2.1 163 = (105, 10) := (h.2 (9, 163, 105, 10) (by decide)).2
theorem ML.k163 {σ : vMem} (h : ML σ) : knd σ 163 = 105 := by unfold knd; rw [h.s163]
theorem ML.l163 {σ : vMem} (h : ML σ) : len σ 163 = 10 := by unfold len; rw [h.s163]
theorem ML.r10 {σ : vMem} (h : ML σ) : gr σ 161 10 = some 164 := (h.2 (10, 164, 101, 10) (by decide)).1
theorem ML.s164 {σ : vMem} (h : ML σ) : σ.2.2.2.1 164 = (101, 10) := (h.2 (10, 164, 101, 10) (by decide)).2
theorem ML.k164 {σ : vMem} (h : ML σ) : knd σ 164 = 101 := by unfold knd; rw [h.s164]
theorem ML.l164 {σ : vMem} (h : ML σ) : len σ 164 = 10 := by unfold len; rw [h.s164]
theorem ML.r11 {σ : vMem} (h : ML σ) : gr σ 161 11 = some 165 := (h.2 (11, 165, 105, 16) (by decide)).1
theorem ML.s165 {σ : vMem} (h : ML σ) : σ.2.2.2.1 165 = (105, 16) := (h.2 (11, 165, 105, 16) (by decide)).2
theorem ML.k165 {σ : vMem} (h : ML σ) : knd σ 165 = 105 := by unfold knd; rw [h.s165]
theorem ML.l165 {σ : vMem} (h : ML σ) : len σ 165 = 16 := by unfold len; rw [h.s165]
theorem ML.r12 {σ : vMem} (h : ML σ) : gr σ 161 12 = some 166 := (h.2 (12, 166, 105, 16) (by decide)).1
theorem ML.s166 {σ : vMem} (h : ML σ) : σ.2.2.2.1 166 = (105, 16) := (h.2 (12, 166, 105, 16) (by decide)).2
theorem ML.k166 {σ : vMem} (h : ML σ) : knd σ 166 = 105 := by unfold knd; rw [h.s166]
theorem ML.l166 {σ : vMem} (h : ML σ) : len σ 166 = 16 := by unfold len; rw [h.s166]
theorem ML.r13 {σ : vMem} (h : ML σ) : gr σ 161 13 = some 167 := (h.2 (13, 167, 105, 8) (by decide)).1
theorem ML.s167 {σ : vMem} (h : ML σ) : σ.2.2.2.1 167 = (105, 8) := (h.2 (13, 167, 105, 8) (by decide)).2
theorem ML.k167 {σ : vMem} (h : ML σ) : knd σ 167 = 105 := by unfold knd; rw [h.s167]
theorem ML.l167 {σ : vMem} (h : ML σ) : len σ 167 = 8 := by unfold len; rw [h.s167]
theorem ML.r14 {σ : vMem} (h : ML σ) : gr σ 161 14 = some 168 := (h.2 (14, 168, 105, 57) (by decide)).1
theorem ML.s168 {σ : vMem} (h : ML σ) : σ.2.2.2.1 168 = (105, 57) := (h.2 (14, 168, 105, 57) (by decide)).2
theorem ML.k168 {σ : vMem} (h : ML σ) : knd σ 168 = 105 := by unfold knd; rw [h.s168]
theorem ML.l168 {σ : vMem} (h : ML σ) : len σ 168 = 57 := by unfold len; rw [h.s168]
theorem ML.r15 {σ : vMem} (h : ML σ) : gr σ 161 15 = some 169 := (h.2 (15, 169, 105, 57) (by decide)).1
theorem ML.s169 {σ : vMem} (h : ML σ) : σ.2.2.2.1 169 = (105, 57) := (h.2 (15, 169, 105, 57) (by decide)).2
theorem ML.k169 {σ : vMem} (h : ML σ) : knd σ 169 = 105 := by unfold knd; rw [h.s169]
theorem ML.l169 {σ : vMem} (h : ML σ) : len σ 169 = 57 := by unfold len; rw [h.s169]
theorem ML.r16 {σ : vMem} (h : ML σ) : gr σ 161 16 = some 170 := (h.2 (16, 170, 105, 80) (by decide)).1
theorem ML.s170 {σ : vMem} (h : ML σ) : σ.2.2.2.1 170 = (105, 80) := (h.2 (16, 170, 105, 80) (by decide)).2
theorem ML.k170 {σ : vMem} (h : ML σ) : knd σ 170 = 105 := by unfold knd; rw [h.s170]
theorem ML.l170 {σ : vMem} (h : ML σ) : len σ 170 = 80 := by unfold len; rw [h.s170]
theorem ML.r21 {σ : vMem} (h : ML σ) : gr σ 161 21 = some 171 := (h.2 (21, 171, 105, 32) (by decide)).1
theorem ML.s171 {σ : vMem} (h : ML σ) : σ.2.2.2.1 171 = (105, 32) := (h.2 (21, 171, 105, 32) (by decide)).2
theorem ML.k171 {σ : vMem} (h : ML σ) : knd σ 171 = 105 := by unfold knd; rw [h.s171]
theorem ML.l171 {σ : vMem} (h : ML σ) : len σ 171 = 32 := by unfold len; rw [h.s171]
theorem ML.r23 {σ : vMem} (h : ML σ) : gr σ 161 23 = some 172 := (h.2 (23, 172, 105, 80) (by decide)).1
theorem ML.s172 {σ : vMem} (h : ML σ) : σ.2.2.2.1 172 = (105, 80) := (h.2 (23, 172, 105, 80) (by decide)).2
theorem ML.k172 {σ : vMem} (h : ML σ) : knd σ 172 = 105 := by unfold knd; rw [h.s172]
theorem ML.l172 {σ : vMem} (h : ML σ) : len σ 172 = 80 := by unfold len; rw [h.s172]
theorem ML.r24 {σ : vMem} (h : ML σ) : gr σ 161 24 = some 173 := (h.2 (24, 173, 105, 80) (by decide)).1
theorem ML.s173 {σ : vMem} (h : ML σ) : σ.2.2.2.1 173 = (105, 80) := (h.2 (24, 173, 105, 80) (by decide)).2
theorem ML.k173 {σ : vMem} (h : ML σ) : knd σ 173 = 105 := by unfold knd; rw [h.s173]
theorem ML.l173 {σ : vMem} (h : ML σ) : len σ 173 = 80 := by unfold len; rw [h.s173]
theorem ML.r27 {σ : vMem} (h : ML σ) : gr σ 161 27 = some 174 := (h.2 (27, 174, 105, 80) (by decide)).1
theorem ML.s174 {σ : vMem} (h : ML σ) : σ.2.2.2.1 174 = (105, 80) := (h.2 (27, 174, 105, 80) (by decide)).2
theorem ML.k174 {σ : vMem} (h : ML σ) : knd σ 174 = 105 := by unfold knd; rw [h.s174]
theorem ML.l174 {σ : vMem} (h : ML σ) : len σ 174 = 80 := by unfold len; rw [h.s174]
theorem ML.r28 {σ : vMem} (h : ML σ) : gr σ 161 28 = some 175 := (h.2 (28, 175, 105, 4) (by decide)).1
theorem ML.s175 {σ : vMem} (h : ML σ) : σ.2.2.2.1 175 = (105, 4) := (h.2 (28, 175, 105, 4) (by decide)).2
theorem ML.k175 {σ : vMem} (h : ML σ) : knd σ 175 = 105 := by unfold knd; rw [h.s175]
theorem ML.l175 {σ : vMem} (h : ML σ) : len σ 175 = 4 := by unfold len; rw [h.s175]
theorem ML.r30 {σ : vMem} (h : ML σ) : gr σ 161 30 = some 176 := (h.2 (30, 176, 105, 912) (by decide)).1
theorem ML.s176 {σ : vMem} (h : ML σ) : σ.2.2.2.1 176 = (105, 912) := (h.2 (30, 176, 105, 912) (by decide)).2
theorem ML.k176 {σ : vMem} (h : ML σ) : knd σ 176 = 105 := by unfold knd; rw [h.s176]
theorem ML.l176 {σ : vMem} (h : ML σ) : len σ 176 = 912 := by unfold len; rw [h.s176]
theorem ML.r33 {σ : vMem} (h : ML σ) : gr σ 161 33 = some 177 := (h.2 (33, 177, 105, 60) (by decide)).1
theorem ML.s177 {σ : vMem} (h : ML σ) : σ.2.2.2.1 177 = (105, 60) := (h.2 (33, 177, 105, 60) (by decide)).2
theorem ML.k177 {σ : vMem} (h : ML σ) : knd σ 177 = 105 := by unfold knd; rw [h.s177]
theorem ML.l177 {σ : vMem} (h : ML σ) : len σ 177 = 60 := by unfold len; rw [h.s177]
theorem ML.r34 {σ : vMem} (h : ML σ) : gr σ 161 34 = some 178 := (h.2 (34, 178, 105, 60) (by decide)).1
theorem ML.s178 {σ : vMem} (h : ML σ) : σ.2.2.2.1 178 = (105, 60) := (h.2 (34, 178, 105, 60) (by decide)).2
theorem ML.k178 {σ : vMem} (h : ML σ) : knd σ 178 = 105 := by unfold knd; rw [h.s178]
theorem ML.l178 {σ : vMem} (h : ML σ) : len σ 178 = 60 := by unfold len; rw [h.s178]
theorem ML.r36 {σ : vMem} (h : ML σ) : gr σ 161 36 = some 179 := (h.2 (36, 179, 105, 30) (by decide)).1
theorem ML.s179 {σ : vMem} (h : ML σ) : σ.2.2.2.1 179 = (105, 30) := (h.2 (36, 179, 105, 30) (by decide)).2
theorem ML.k179 {σ : vMem} (h : ML σ) : knd σ 179 = 105 := by unfold knd; rw [h.s179]
theorem ML.l179 {σ : vMem} (h : ML σ) : len σ 179 = 30 := by unfold len; rw [h.s179]
theorem ML.r37 {σ : vMem} (h : ML σ) : gr σ 161 37 = some 180 := (h.2 (37, 180, 105, 9) (by decide)).1
theorem ML.s180 {σ : vMem} (h : ML σ) : σ.2.2.2.1 180 = (105, 9) := (h.2 (37, 180, 105, 9) (by decide)).2
theorem ML.k180 {σ : vMem} (h : ML σ) : knd σ 180 = 105 := by unfold knd; rw [h.s180]
theorem ML.l180 {σ : vMem} (h : ML σ) : len σ 180 = 9 := by unfold len; rw [h.s180]
theorem ML.r38 {σ : vMem} (h : ML σ) : gr σ 161 38 = some 181 := (h.2 (38, 181, 105, 9) (by decide)).1
theorem ML.s181 {σ : vMem} (h : ML σ) : σ.2.2.2.1 181 = (105, 9) := (h.2 (38, 181, 105, 9) (by decide)).2
theorem ML.k181 {σ : vMem} (h : ML σ) : knd σ 181 = 105 := by unfold knd; rw [h.s181]
theorem ML.l181 {σ : vMem} (h : ML σ) : len σ 181 = 9 := by unfold len; rw [h.s181]
theorem ML.r41 {σ : vMem} (h : ML σ) : gr σ 161 41 = some 182 := (h.2 (41, 182, 105, 14409) (by decide)).1
theorem ML.s182 {σ : vMem} (h : ML σ) : σ.2.2.2.1 182 = (105, 14409) := (h.2 (41, 182, 105, 14409) (by decide)).2
theorem ML.k182 {σ : vMem} (h : ML σ) : knd σ 182 = 105 := by unfold knd; rw [h.s182]
theorem ML.l182 {σ : vMem} (h : ML σ) : len σ 182 = 14409 := by unfold len; rw [h.s182]
theorem ML.r43 {σ : vMem} (h : ML σ) : gr σ 161 43 = some 183 := (h.2 (43, 183, 105, 12) (by decide)).1
theorem ML.s183 {σ : vMem} (h : ML σ) : σ.2.2.2.1 183 = (105, 12) := (h.2 (43, 183, 105, 12) (by decide)).2
theorem ML.k183 {σ : vMem} (h : ML σ) : knd σ 183 = 105 := by unfold knd; rw [h.s183]
theorem ML.l183 {σ : vMem} (h : ML σ) : len σ 183 = 12 := by unfold len; rw [h.s183]
theorem ML.r44 {σ : vMem} (h : ML σ) : gr σ 161 44 = some 184 := (h.2 (44, 184, 105, 12) (by decide)).1
theorem ML.s184 {σ : vMem} (h : ML σ) : σ.2.2.2.1 184 = (105, 12) := (h.2 (44, 184, 105, 12) (by decide)).2
theorem ML.k184 {σ : vMem} (h : ML σ) : knd σ 184 = 105 := by unfold knd; rw [h.s184]
theorem ML.l184 {σ : vMem} (h : ML σ) : len σ 184 = 12 := by unfold len; rw [h.s184]
theorem ML.r45 {σ : vMem} (h : ML σ) : gr σ 161 45 = some 185 := (h.2 (45, 185, 105, 225) (by decide)).1
theorem ML.s185 {σ : vMem} (h : ML σ) : σ.2.2.2.1 185 = (105, 225) := (h.2 (45, 185, 105, 225) (by decide)).2
theorem ML.k185 {σ : vMem} (h : ML σ) : knd σ 185 = 105 := by unfold knd; rw [h.s185]
theorem ML.l185 {σ : vMem} (h : ML σ) : len σ 185 = 225 := by unfold len; rw [h.s185]
theorem ML.r46 {σ : vMem} (h : ML σ) : gr σ 161 46 = some 186 := (h.2 (46, 186, 101, 225) (by decide)).1
theorem ML.s186 {σ : vMem} (h : ML σ) : σ.2.2.2.1 186 = (101, 225) := (h.2 (46, 186, 101, 225) (by decide)).2
theorem ML.k186 {σ : vMem} (h : ML σ) : knd σ 186 = 101 := by unfold knd; rw [h.s186]
theorem ML.l186 {σ : vMem} (h : ML σ) : len σ 186 = 225 := by unfold len; rw [h.s186]
theorem ML.r47 {σ : vMem} (h : ML σ) : gr σ 161 47 = some 187 := (h.2 (47, 187, 101, 225) (by decide)).1
theorem ML.s187 {σ : vMem} (h : ML σ) : σ.2.2.2.1 187 = (101, 225) := (h.2 (47, 187, 101, 225) (by decide)).2
theorem ML.k187 {σ : vMem} (h : ML σ) : knd σ 187 = 101 := by unfold knd; rw [h.s187]
theorem ML.l187 {σ : vMem} (h : ML σ) : len σ 187 = 225 := by unfold len; rw [h.s187]
theorem ML.r50 {σ : vMem} (h : ML σ) : gr σ 161 50 = some 188 := (h.2 (50, 188, 101, 3) (by decide)).1
theorem ML.s188 {σ : vMem} (h : ML σ) : σ.2.2.2.1 188 = (101, 3) := (h.2 (50, 188, 101, 3) (by decide)).2
theorem ML.k188 {σ : vMem} (h : ML σ) : knd σ 188 = 101 := by unfold knd; rw [h.s188]
theorem ML.l188 {σ : vMem} (h : ML σ) : len σ 188 = 3 := by unfold len; rw [h.s188]
theorem ML.r51 {σ : vMem} (h : ML σ) : gr σ 161 51 = some 189 := (h.2 (51, 189, 105, 3) (by decide)).1
theorem ML.s189 {σ : vMem} (h : ML σ) : σ.2.2.2.1 189 = (105, 3) := (h.2 (51, 189, 105, 3) (by decide)).2
theorem ML.k189 {σ : vMem} (h : ML σ) : knd σ 189 = 105 := by unfold knd; rw [h.s189]
theorem ML.l189 {σ : vMem} (h : ML σ) : len σ 189 = 3 := by unfold len; rw [h.s189]
theorem ML.r52 {σ : vMem} (h : ML σ) : gr σ 161 52 = some 190 := (h.2 (52, 190, 105, 171) (by decide)).1
theorem ML.s190 {σ : vMem} (h : ML σ) : σ.2.2.2.1 190 = (105, 171) := (h.2 (52, 190, 105, 171) (by decide)).2
theorem ML.k190 {σ : vMem} (h : ML σ) : knd σ 190 = 105 := by unfold knd; rw [h.s190]
theorem ML.l190 {σ : vMem} (h : ML σ) : len σ 190 = 171 := by unfold len; rw [h.s190]
def CLT : List (Nat × Nat × Nat × Nat) := [(3, 16, 110, 15), (4, 17, 105, 10), (5, 18, 105, 16), (6, 19, 105, 16), (7, 20, 105, 8), (15, 21, 102, 80), (17, 22, 106, 40), (21, 23, 112, 8), (22, 32, 105, 25), (25, 33, 113, 25), (26, 59, 114, 25), (27, 85, 111, 3), (0, 1, 2, 9), (1, 6, 2, 9), (2, 11, 2, 9)]
/-- by references and shapes alone -/
def CL (σ : vMem) : Prop := knd σ 0 = 1 ∧ ∀ q ∈ CLT, gr σ 0 q.1 = some q.2.1 ∧ σ.2.2.2.1 q.2.1 = (q.2.2.1, q.2.2.2)
theorem CL.k {σ : vMem} (h : CL σ) : knd σ 0 = 1 := h.1
theorem CL.r3 {σ : vMem} (h : CL σ) : gr σ 0 3 = some 16 := (h.2 (3, 16, 110, 15) (by decide)).1
theorem CL.s16 {σ : vMem} (h : CL σ) : σ.2.2.2.1 16 = (110, 15) := (h.2 (3, 16, 110, 15) (by decide)).2
theorem CL.k16 {σ : vMem} (h : CL σ) : knd σ 16 = 110 := by unfold knd; rw [h.s16]
theorem CL.l16 {σ : vMem} (h : CL σ) : len σ 16 = 15 := by unfold len; rw [h.s16]
theorem CL.r4 {σ : vMem} (h : CL σ) : gr σ 0 4 = some 17 := (h.2 (4, 17, 105, 10) (by decide)).1
theorem CL.s17 {σ : vMem} (h : CL σ) : σ.2.2.2.1 17 = (105, 10) := (h.2 (4, 17, 105, 10) (by decide)).2
theorem CL.k17 {σ : vMem} (h : CL σ) : knd σ 17 = 105 := by unfold knd; rw [h.s17]
theorem CL.l17 {σ : vMem} (h : CL σ) : len σ 17 = 10 := by unfold len; rw [h.s17]
theorem CL.r5 {σ : vMem} (h : CL σ) : gr σ 0 5 = some 18 := (h.2 (5, 18, 105, 16) (by decide)).1
theorem CL.s18 {σ : vMem} (h : CL σ) : σ.2.2.2.1 18 = (105, 16) := (h.2 (5, 18, 105, 16) (by decide)).2
theorem CL.k18 {σ : vMem} (h : CL σ) : knd σ 18 = 105 := by unfold knd; rw [h.s18]
theorem CL.l18 {σ : vMem} (h : CL σ) : len σ 18 = 16 := by unfold len; rw [h.s18]
theorem CL.r6 {σ : vMem} (h : CL σ) : gr σ 0 6 = some 19 := (h.2 (6, 19, 105, 16) (by decide)).1
theorem CL.s19 {σ : vMem} (h : CL σ) : σ.2.2.2.1 19 = (105, 16) := (h.2 (6, 19, 105, 16) (by decide)).2
theorem CL.k19 {σ : vMem} (h : CL σ) : knd σ 19 = 105 := by unfold knd; rw [h.s19]
theorem CL.l19 {σ : vMem} (h : CL σ) : len σ 19 = 16 := by unfold len; rw [h.s19]
theorem CL.r7 {σ : vMem} (h : CL σ) : gr σ 0 7 = some 20 := (h.2 (7, 20, 105, 8) (by decide)).1
theorem CL.s20 {σ : vMem} (h : CL σ) : σ.2.2.2.1 20 = (105, 8) := (h.2 (7, 20, 105, 8) (by decide)).2
theorem CL.k20 {σ : vMem} (h : CL σ) : knd σ 20 = 105 := by unfold knd; rw [h.s20]
theorem CL.l20 {σ : vMem} (h : CL σ) : len σ 20 = 8 := by unfold len; rw [h.s20]
theorem CL.r15 {σ : vMem} (h : CL σ) : gr σ 0 15 = some 21 := (h.2 (15, 21, 102, 80) (by decide)).1
theorem CL.s21 {σ : vMem} (h : CL σ) : σ.2.2.2.1 21 = (102, 80) := (h.2 (15, 21, 102, 80) (by decide)).2
theorem CL.k21 {σ : vMem} (h : CL σ) : knd σ 21 = 102 := by unfold knd; rw [h.s21]
theorem CL.l21 {σ : vMem} (h : CL σ) : len σ 21 = 80 := by unfold len; rw [h.s21]
theorem CL.r17 {σ : vMem} (h : CL σ) : gr σ 0 17 = some 22 := (h.2 (17, 22, 106, 40) (by decide)).1
theorem CL.s22 {σ : vMem} (h : CL σ) : σ.2.2.2.1 22 = (106, 40) := (h.2 (17, 22, 106, 40) (by decide)).2
theorem CL.k22 {σ : vMem} (h : CL σ) : knd σ 22 = 106 := by unfold knd; rw [h.s22]
theorem CL.l22 {σ : vMem} (h : CL σ) : len σ 22 = 40 := by unfold len; rw [h.s22]
theorem CL.r21 {σ : vMem} (h : CL σ) : gr σ 0 21 = some 23 := (h.2 (21, 23, 112, 8) (by decide)).1
theorem CL.s23 {σ : vMem} (h : CL σ) : σ.2.2.2.1 23 = (112, 8) := (h.2 (21, 23, 112, 8) (by decide)).2
theorem CL.k23 {σ : vMem} (h : CL σ) : knd σ 23 = 112 := by unfold knd; rw [h.s23]
theorem CL.l23 {σ : vMem} (h : CL σ) : len σ 23 = 8 := by unfold len; rw [h.s23]
theorem CL.r22 {σ : vMem} (h : CL σ) : gr σ 0 22 = some 32 := (h.2 (22, 32, 105, 25) (by decide)).1
theorem CL.s32 {σ : vMem} (h : CL σ) : σ.2.2.2.1 32 = (105, 25) := (h.2 (22, 32, 105, 25) (by decide)).2
theorem CL.k32 {σ : vMem} (h : CL σ) : knd σ 32 = 105 := by unfold knd; rw [h.s32]
theorem CL.l32 {σ : vMem} (h : CL σ) : len σ 32 = 25 := by unfold len; rw [h.s32]
theorem CL.r25 {σ : vMem} (h : CL σ) : gr σ 0 25 = some 33 := (h.2 (25, 33, 113, 25) (by decide)).1
theorem CL.s33 {σ : vMem} (h : CL σ) : σ.2.2.2.1 33 = (113, 25) := (h.2 (25, 33, 113, 25) (by decide)).2
theorem CL.k33 {σ : vMem} (h : CL σ) : knd σ 33 = 113 := by unfold knd; rw [h.s33]
theorem CL.l33 {σ : vMem} (h : CL σ) : len σ 33 = 25 := by unfold len; rw [h.s33]
theorem CL.r26 {σ : vMem} (h : CL σ) : gr σ 0 26 = some 59 := (h.2 (26, 59, 114, 25) (by decide)).1
theorem CL.s59 {σ : vMem} (h : CL σ) : σ.2.2.2.1 59 = (114, 25) := (h.2 (26, 59, 114, 25) (by decide)).2
theorem CL.k59 {σ : vMem} (h : CL σ) : knd σ 59 = 114 := by unfold knd; rw [h.s59]
theorem CL.l59 {σ : vMem} (h : CL σ) : len σ 59 = 25 := by unfold len; rw [h.s59]
theorem CL.r27 {σ : vMem} (h : CL σ) : gr σ 0 27 = some 85 := (h.2 (27, 85, 111, 3) (by decide)).1
theorem CL.s85 {σ : vMem} (h : CL σ) : σ.2.2.2.1 85 = (111, 3) := (h.2 (27, 85, 111, 3) (by decide)).2
theorem CL.k85 {σ : vMem} (h : CL σ) : knd σ 85 = 111 := by unfold knd; rw [h.s85]
theorem CL.l85 {σ : vMem} (h : CL σ) : len σ 85 = 3 := by unfold len; rw [h.s85]
theorem CL.r0 {σ : vMem} (h : CL σ) : gr σ 0 0 = some 1 := (h.2 (0, 1, 2, 9) (by decide)).1
theorem CL.s1 {σ : vMem} (h : CL σ) : σ.2.2.2.1 1 = (2, 9) := (h.2 (0, 1, 2, 9) (by decide)).2
theorem CL.k1 {σ : vMem} (h : CL σ) : knd σ 1 = 2 := by unfold knd; rw [h.s1]
theorem CL.l1 {σ : vMem} (h : CL σ) : len σ 1 = 9 := by unfold len; rw [h.s1]
theorem CL.r1 {σ : vMem} (h : CL σ) : gr σ 0 1 = some 6 := (h.2 (1, 6, 2, 9) (by decide)).1
theorem CL.s6 {σ : vMem} (h : CL σ) : σ.2.2.2.1 6 = (2, 9) := (h.2 (1, 6, 2, 9) (by decide)).2
theorem CL.k6 {σ : vMem} (h : CL σ) : knd σ 6 = 2 := by unfold knd; rw [h.s6]
theorem CL.l6 {σ : vMem} (h : CL σ) : len σ 6 = 9 := by unfold len; rw [h.s6]
theorem CL.r2 {σ : vMem} (h : CL σ) : gr σ 0 2 = some 11 := (h.2 (2, 11, 2, 9) (by decide)).1
theorem CL.s11 {σ : vMem} (h : CL σ) : σ.2.2.2.1 11 = (2, 9) := (h.2 (2, 11, 2, 9) (by decide)).2
theorem CL.k11 {σ : vMem} (h : CL σ) : knd σ 11 = 2 := by unfold knd; rw [h.s11]
theorem CL.l11 {σ : vMem} (h : CL σ) : len σ 11 = 9 := by unfold len; rw [h.s11]
theorem σ2_ML : ML σ2 := ⟨by decide +kernel, by decide +kernel⟩
theorem σ2_CL : CL σ2 := ⟨by decide +kernel, by decide +kernel⟩
theorem σ2_mn : mn σ2 = 191 := by decide +kernel
