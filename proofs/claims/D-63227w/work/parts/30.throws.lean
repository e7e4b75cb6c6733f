/-! throw sites -/
set_option maxRecDepth 1000000 in
theorem th_Ma_trap : thx "ModuleLoader$Machine" 53 55 x_UOE := by unfold thx; decide +kernel
set_option maxRecDepth 1000000 in
theorem th_Re_need : thx "ModuleLoader$Reader" 32 34 x_IAE := by unfold thx; decide +kernel
set_option maxRecDepth 1000000 in
theorem th_ML_inside : thx "ModuleLoader" 44 46 x_IOB := by unfold thx; decide +kernel
set_option maxRecDepth 1000000 in
theorem th_ML_fits : thx "ModuleLoader" 47 49 x_IAE := by unfold thx; decide +kernel
set_option maxRecDepth 1000000 in
theorem th_ML_state : thx "ModuleLoader" 50 52 x_ISE := by unfold thx; decide +kernel
