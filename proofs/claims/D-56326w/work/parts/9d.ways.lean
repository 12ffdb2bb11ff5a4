/-! ===== ways: the sites by number ===== -/
theorem n_fits {vals : List Value} {tys : List FieldType} (h : ((tys.zip vals).all fun q => fits q.1 q.2) = true) : ∀ (i : Nat) (v : Value) (t : FieldType), vals[i]? = some v → tys[i]? = some t → fits t v = true := by
  intro i v t h1 h2
  rw [List.all_eq_true] at h
  refine h (t, v) (List.mem_of_getElem? (i := i) ?_)
  rw [List.getElem?_zip_eq_some]
  exact ⟨h2, h1⟩
theorem ls_1 : (1, Cond.lambdaSite ⟨"ClockworkTailor$Book", "anyWay", "()LClockworkTailor$Way;"⟩ 1 60 (wsh siteWord_1_1)) ∈ LSS := List.mem_of_getElem? (i := 0) rfl
theorem ls_2 : (2, Cond.lambdaSite ⟨"ClockworkTailor$Book", "directWay", "()LClockworkTailor$Way;"⟩ 1 56 (wsh siteWord_1_2)) ∈ LSS := List.mem_of_getElem? (i := 1) rfl
theorem ls_3 : (3, Cond.lambdaSite ⟨"ClockworkTailor", "define", "(CCI)I"⟩ 4 150 (wsh siteWord_1_3)) ∈ LSS := List.mem_of_getElem? (i := 2) rfl
theorem ls_4 : (4, Cond.lambdaSite ⟨"ClockworkTailor", "dropRecipe", "(C)I"⟩ 2 157 (wsh siteWord_1_4)) ∈ LSS := List.mem_of_getElem? (i := 3) rfl
theorem ls_5 : (5, Cond.lambdaSite ⟨"ClockworkTailor", "addNeed", "(CCZ)I"⟩ 4 160 (wsh siteWord_1_5)) ∈ LSS := List.mem_of_getElem? (i := 4) rfl
theorem ls_6 : (6, Cond.lambdaSite ⟨"ClockworkTailor", "removeNeed", "(CC)I"⟩ 3 163 (wsh siteWord_1_6)) ∈ LSS := List.mem_of_getElem? (i := 5) rfl
theorem ls_7 : (7, Cond.lambdaSite ⟨"ClockworkTailor", "replace", "(CC)I"⟩ 3 194 (wsh siteWord_1_7)) ∈ LSS := List.mem_of_getElem? (i := 6) rfl
theorem ls_8 : (8, Cond.lambdaSite ⟨"ClockworkTailor", "putBack", "(C)C"⟩ 2 195 (wsh siteWord_1_8)) ∈ LSS := List.mem_of_getElem? (i := 7) rfl
theorem ls_9 : (9, Cond.lambdaSite ⟨"ClockworkTailor", "openThread", "()I"⟩ 1 223 (wsh siteWord_1_9)) ∈ LSS := List.mem_of_getElem? (i := 8) rfl
theorem ls_10 : (10, Cond.lambdaSite ⟨"ClockworkTailor", "closeThread", "(I)I"⟩ 2 226 (wsh siteWord_1_10)) ∈ LSS := List.mem_of_getElem? (i := 9) rfl
theorem ls_11 : (11, Cond.lambdaSite ⟨"ClockworkTailor", "make", "(CI)I"⟩ 3 235 (wsh siteWord_1_11)) ∈ LSS := List.mem_of_getElem? (i := 10) rfl
theorem ls_12 : (12, Cond.lambdaSite ⟨"ClockworkTailor", "touch", "(III)I"⟩ 4 238 (wsh siteWord_1_12)) ∈ LSS := List.mem_of_getElem? (i := 11) rfl
theorem ls_13 : (13, Cond.lambdaSite ⟨"ClockworkTailor$Parser", "recipe", "()LClockworkTailor$Change;"⟩ 27 88 (wsh siteWord_1_13)) ∈ LSS := List.mem_of_getElem? (i := 12) rfl
theorem ls_14 : (14, Cond.lambdaSite ⟨"ClockworkTailor$Parser", "dropping", "()LClockworkTailor$Change;"⟩ 13 94 (wsh siteWord_1_14)) ∈ LSS := List.mem_of_getElem? (i := 13) rfl
theorem ls_15 : (15, Cond.lambdaSite ⟨"ClockworkTailor$Parser", "needing", "(Z)LClockworkTailor$Change;"⟩ 30 101 (wsh siteWord_1_15)) ∈ LSS := List.mem_of_getElem? (i := 14) rfl
theorem ls_16 : (16, Cond.lambdaSite ⟨"ClockworkTailor$Parser", "closing", "()LClockworkTailor$Change;"⟩ 13 122 (wsh siteWord_1_16)) ∈ LSS := List.mem_of_getElem? (i := 15) rfl
theorem ls_17 : (17, Cond.lambdaSite ⟨"ClockworkTailor$Parser", "cutting", "()LClockworkTailor$Change;"⟩ 20 106 (wsh siteWord_1_17)) ∈ LSS := List.mem_of_getElem? (i := 16) rfl
theorem ls_18 : (18, Cond.lambdaSite ⟨"ClockworkTailor$Parser", "swapping", "()LClockworkTailor$Change;"⟩ 20 111 (wsh siteWord_1_18)) ∈ LSS := List.mem_of_getElem? (i := 17) rfl
theorem ls_19 : (19, Cond.lambdaSite ⟨"ClockworkTailor$Parser", "puttingBack", "()LClockworkTailor$Change;"⟩ 13 114 (wsh siteWord_1_19)) ∈ LSS := List.mem_of_getElem? (i := 18) rfl
theorem ls_20 : (20, Cond.lambdaSite ⟨"ClockworkTailor$Parser", "opening", "()LClockworkTailor$Change;"⟩ 6 117 (wsh siteWord_1_20)) ∈ LSS := List.mem_of_getElem? (i := 19) rfl
theorem ls_21 : (21, Cond.lambdaSite ⟨"ClockworkTailor$Parser", "making", "()LClockworkTailor$Change;"⟩ 20 127 (wsh siteWord_1_21)) ∈ LSS := List.mem_of_getElem? (i := 20) rfl
theorem ls_22 : (22, Cond.lambdaSite ⟨"ClockworkTailor$Parser", "touching", "()LClockworkTailor$Change;"⟩ 27 132 (wsh siteWord_1_22)) ∈ LSS := List.mem_of_getElem? (i := 21) rfl
theorem ls_23 : (23, Cond.lambdaSite ⟨"ClockworkTailor", "execute", "()I"⟩ 6 372 (wsh siteWord_1_23)) ∈ LSS := List.mem_of_getElem? (i := 22) rfl
