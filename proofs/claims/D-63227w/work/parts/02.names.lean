def R_ML : String := "ModuleLoader"
def F_ML : u_T := fun k => match k with
  | 0 => ("ModuleLoader", "machine", "LModuleLoader$Machine;", true)
  | 1 => ("ModuleLoader", "symbols", "LModuleLoader$Symbols;", true)
  | 2 => ("ModuleLoader", "modules", "Ljava/util/ArrayList;", true)
  | 3 => ("ModuleLoader", "rows", "[LModuleLoader$Module;", true)
  | 4 => ("ModuleLoader", "tape", "[B", true)
  | 5 => ("ModuleLoader", "taped", "I", false)
  | 6 => ("ModuleLoader", "fault", "I", false)
  | 7 => ("ModuleLoader", "which", "I", false)
  | 8 => ("ModuleLoader", "trap", "I", false)
  | 9 => ("ModuleLoader", "made", "I", false)
  | 10 => ("ModuleLoader", "returned", "I", false)
  | _ => ("ModuleLoader", "sealed", "Z", false)
def t_ML : Nat → FieldType := fun k => match k with
  | 0 => .object "ModuleLoader$Machine"
  | 1 => .object "ModuleLoader$Symbols"
  | 2 => .object "java/util/ArrayList"
  | 3 => .array (.object "ModuleLoader$Module")
  | 4 => .array (.byte)
  | 5 => .int
  | 6 => .int
  | 7 => .int
  | 8 => .int
  | 9 => .int
  | 10 => .int
  | _ => .boolean
def R_Ma : String := "ModuleLoader$Machine"
def F_Ma : u_T := fun k => match k with
  | 0 => ("ModuleLoader$Machine", "memory", "[B", true)
  | 1 => ("ModuleLoader$Machine", "shut", "[Z", true)
  | 2 => ("ModuleLoader$Machine", "registers", "[I", true)
  | 3 => ("ModuleLoader$Machine", "kinds", "[LModuleLoader$Does;", true)
  | 4 => ("ModuleLoader$Machine", "at", "I", false)
  | 5 => ("ModuleLoader$Machine", "trap", "I", false)
  | _ => ("ModuleLoader$Machine", "made", "I", false)
def t_Ma : Nat → FieldType := fun k => match k with
  | 0 => .array (.byte)
  | 1 => .array (.boolean)
  | 2 => .array (.int)
  | 3 => .array (.object "ModuleLoader$Does")
  | 4 => .int
  | 5 => .int
  | _ => .int
def R_Up : String := "ModuleLoader$Upper"
def F_Up : u_T := fun k => match k with
  | _ => ("ModuleLoader$Upper", "from", "Z", true)
def t_Up : Nat → FieldType := fun k => match k with
  | _ => .boolean
def R_Ju : String := "ModuleLoader$Jump"
def F_Ju : u_T := fun k => match k with
  | _ => ("ModuleLoader$Jump", "register", "Z", true)
def t_Ju : Nat → FieldType := fun k => match k with
  | _ => .boolean
def R_Br : String := "ModuleLoader$Branch"
def F_Br : u_T := fun _ => ("ModuleLoader$Branch", "", "I", false)
def t_Br : Nat → FieldType := fun _ => .int
def R_Ld : String := "ModuleLoader$Load"
def F_Ld : u_T := fun _ => ("ModuleLoader$Load", "", "I", false)
def t_Ld : Nat → FieldType := fun _ => .int
def R_Sr : String := "ModuleLoader$Store"
def F_Sr : u_T := fun _ => ("ModuleLoader$Store", "", "I", false)
def t_Sr : Nat → FieldType := fun _ => .int
def R_Rk : String := "ModuleLoader$Reckon"
def F_Rk : u_T := fun k => match k with
  | _ => ("ModuleLoader$Reckon", "immediate", "Z", true)
def t_Rk : Nat → FieldType := fun k => match k with
  | _ => .boolean
def R_Ss : String := "ModuleLoader$Symbols"
def F_Ss : u_T := fun k => match k with
  | 0 => ("ModuleLoader$Symbols", "places", "[LModuleLoader$Symbol;", false)
  | 1 => ("ModuleLoader$Symbols", "gone", "LModuleLoader$Symbol;", true)
  | 2 => ("ModuleLoader$Symbols", "many", "I", false)
  | _ => ("ModuleLoader$Symbols", "marks", "I", false)
def t_Ss : Nat → FieldType := fun k => match k with
  | 0 => .array (.object "ModuleLoader$Symbol")
  | 1 => .object "ModuleLoader$Symbol"
  | 2 => .int
  | _ => .int
def R_Sy : String := "ModuleLoader$Symbol"
def F_Sy : u_T := fun k => match k with
  | 0 => ("ModuleLoader$Symbol", "name", "I", true)
  | 1 => ("ModuleLoader$Symbol", "check", "I", true)
  | 2 => ("ModuleLoader$Symbol", "address", "I", true)
  | _ => ("ModuleLoader$Symbol", "owner", "LModuleLoader$Module;", true)
def t_Sy : Nat → FieldType := fun k => match k with
  | 0 => .int
  | 1 => .int
  | 2 => .int
  | _ => .object "ModuleLoader$Module"
def R_AL : String := "java/util/ArrayList"
def F_AL : u_T := fun k => match k with
  | 0 => ("java/util/ArrayList", "elementData", "[Ljava/lang/Object;", false)
  | 1 => ("java/util/ArrayList", "size", "I", false)
  | _ => ("java/util/AbstractList", "modCount", "I", false)
def t_AL : Nat → FieldType := fun k => match k with
  | 0 => .array (.object "java/lang/Object")
  | 1 => .int
  | _ => .int
def R_Re : String := "ModuleLoader$Reader"
def F_Re : u_T := fun k => match k with
  | 0 => ("ModuleLoader$Reader", "bytes", "[B", true)
  | 1 => ("ModuleLoader$Reader", "size", "I", true)
  | 2 => ("ModuleLoader$Reader", "at", "I", false)
  | 3 => ("ModuleLoader$Reader", "image", "[I", false)
  | 4 => ("ModuleLoader$Reader", "init", "I", false)
  | 5 => ("ModuleLoader$Reader", "exit", "I", false)
  | 6 => ("ModuleLoader$Reader", "guard", "I", false)
  | 7 => ("ModuleLoader$Reader", "imports", "Ljava/util/ArrayList;", true)
  | 8 => ("ModuleLoader$Reader", "exports", "Ljava/util/ArrayList;", true)
  | _ => ("ModuleLoader$Reader", "places", "Ljava/util/ArrayList;", true)
def t_Re : Nat → FieldType := fun k => match k with
  | 0 => .array (.byte)
  | 1 => .int
  | 2 => .int
  | 3 => .array (.int)
  | 4 => .int
  | 5 => .int
  | 6 => .int
  | 7 => .object "java/util/ArrayList"
  | 8 => .object "java/util/ArrayList"
  | _ => .object "java/util/ArrayList"
def R_Im : String := "ModuleLoader$Import"
def F_Im : u_T := fun k => match k with
  | 0 => ("ModuleLoader$Import", "name", "I", true)
  | _ => ("ModuleLoader$Import", "check", "I", true)
def t_Im : Nat → FieldType := fun k => match k with
  | 0 => .int
  | _ => .int
def R_Ep : String := "ModuleLoader$Export"
def F_Ep : u_T := fun k => match k with
  | 0 => ("ModuleLoader$Export", "name", "I", true)
  | 1 => ("ModuleLoader$Export", "check", "I", true)
  | _ => ("ModuleLoader$Export", "offset", "I", true)
def t_Ep : Nat → FieldType := fun k => match k with
  | 0 => .int
  | 1 => .int
  | _ => .int
def R_Pl : String := "ModuleLoader$Place"
def F_Pl : u_T := fun k => match k with
  | 0 => ("ModuleLoader$Place", "kind", "I", true)
  | 1 => ("ModuleLoader$Place", "offset", "I", true)
  | 2 => ("ModuleLoader$Place", "source", "I", true)
  | _ => ("ModuleLoader$Place", "addend", "I", true)
def t_Pl : Nat → FieldType := fun k => match k with
  | 0 => .int
  | 1 => .int
  | 2 => .int
  | _ => .int
def R_Mo : String := "ModuleLoader$Module"
def F_Mo : u_T := fun k => match k with
  | 0 => ("ModuleLoader$Module", "name", "I", true)
  | 1 => ("ModuleLoader$Module", "address", "I", true)
  | 2 => ("ModuleLoader$Module", "size", "I", true)
  | 3 => ("ModuleLoader$Module", "guard", "I", true)
  | 4 => ("ModuleLoader$Module", "exit", "I", true)
  | 5 => ("ModuleLoader$Module", "exports", "I", false)
  | _ => ("ModuleLoader$Module", "needs", "Ljava/util/ArrayList;", true)
def t_Mo : Nat → FieldType := fun k => match k with
  | 0 => .int
  | 1 => .int
  | 2 => .int
  | 3 => .int
  | 4 => .int
  | 5 => .int
  | _ => .object "java/util/ArrayList"
def R_TM : String := "ModuleLoaderModel"
def F_TM : u_T := fun k => match k with
  | 0 => ("ModuleLoaderModel", "thrown", "I", false)
  | 1 => ("ModuleLoaderModel", "memory", "[I", true)
  | 2 => ("ModuleLoaderModel", "sealed", "Z", false)
  | 3 => ("ModuleLoaderModel", "symbols", "I", false)
  | 4 => ("ModuleLoaderModel", "symbolName", "[I", true)
  | 5 => ("ModuleLoaderModel", "symbolCheck", "[I", true)
  | 6 => ("ModuleLoaderModel", "symbolAt", "[I", true)
  | 7 => ("ModuleLoaderModel", "symbolOf", "[I", true)
  | 8 => ("ModuleLoaderModel", "isModule", "[Z", true)
  | 9 => ("ModuleLoaderModel", "moduleName", "[I", true)
  | 10 => ("ModuleLoaderModel", "base", "[I", true)
  | 11 => ("ModuleLoaderModel", "size", "[I", true)
  | 12 => ("ModuleLoaderModel", "guard", "[I", true)
  | 13 => ("ModuleLoaderModel", "exit", "[I", true)
  | 14 => ("ModuleLoaderModel", "needs", "[Z", true)
  | 15 => ("ModuleLoaderModel", "taped", "I", false)
  | 16 => ("ModuleLoaderModel", "tape", "[I", true)
  | 17 => ("ModuleLoaderModel", "fault", "I", false)
  | 18 => ("ModuleLoaderModel", "which", "I", false)
  | 19 => ("ModuleLoaderModel", "trap", "I", false)
  | 20 => ("ModuleLoaderModel", "made", "I", false)
  | 21 => ("ModuleLoaderModel", "returned", "I", false)
  | 22 => ("ModuleLoaderModel", "registers", "[I", true)
  | 23 => ("ModuleLoaderModel", "imports", "I", false)
  | 24 => ("ModuleLoaderModel", "exports", "I", false)
  | 25 => ("ModuleLoaderModel", "places", "I", false)
  | 26 => ("ModuleLoaderModel", "length", "I", false)
  | 27 => ("ModuleLoaderModel", "init", "I", false)
  | 28 => ("ModuleLoaderModel", "leaves", "I", false)
  | 29 => ("ModuleLoaderModel", "guards", "I", false)
  | _ => ("ModuleLoaderModel", "pc", "I", false)
def t_TM : Nat → FieldType := fun k => match k with
  | 0 => .int
  | 1 => .array (.int)
  | 2 => .boolean
  | 3 => .int
  | 4 => .array (.int)
  | 5 => .array (.int)
  | 6 => .array (.int)
  | 7 => .array (.int)
  | 8 => .array (.boolean)
  | 9 => .array (.int)
  | 10 => .array (.int)
  | 11 => .array (.int)
  | 12 => .array (.int)
  | 13 => .array (.int)
  | 14 => .array (.boolean)
  | 15 => .int
  | 16 => .array (.int)
  | 17 => .int
  | 18 => .int
  | 19 => .int
  | 20 => .int
  | 21 => .int
  | 22 => .array (.int)
  | 23 => .int
  | 24 => .int
  | 25 => .int
  | 26 => .int
  | 27 => .int
  | 28 => .int
  | 29 => .int
  | _ => .int
abbrev classes : List vw_C := [(R_ML, F_ML, 12), (R_Ma, F_Ma, 7), (R_Up, F_Up, 1), (R_Ju, F_Ju, 1), (R_Br, F_Br, 0), (R_Ld, F_Ld, 0), (R_Sr, F_Sr, 0), (R_Rk, F_Rk, 1), (R_Ss, F_Ss, 4), (R_Sy, F_Sy, 4), (R_AL, F_AL, 3), (R_Re, F_Re, 10), (R_Im, F_Im, 2), (R_Ep, F_Ep, 3), (R_Pl, F_Pl, 4), (R_Mo, F_Mo, 7), (R_TM, F_TM, 31)]
theorem n_ML : ∀ a, a < 12 → ∀ b, b < 12 → a ≠ b → (F_ML a).2.1 ≠ (F_ML b).2.1 := by decide +kernel
theorem t_ML_ok : ∀ k, k < 12 → parseFieldDescriptor (F_ML k).2.2.1 = some (t_ML k) := by decide +kernel
theorem n_Ma : ∀ a, a < 7 → ∀ b, b < 7 → a ≠ b → (F_Ma a).2.1 ≠ (F_Ma b).2.1 := by decide +kernel
theorem t_Ma_ok : ∀ k, k < 7 → parseFieldDescriptor (F_Ma k).2.2.1 = some (t_Ma k) := by decide +kernel
theorem n_Up : ∀ a, a < 1 → ∀ b, b < 1 → a ≠ b → (F_Up a).2.1 ≠ (F_Up b).2.1 := by decide +kernel
theorem t_Up_ok : ∀ k, k < 1 → parseFieldDescriptor (F_Up k).2.2.1 = some (t_Up k) := by decide +kernel
theorem n_Ju : ∀ a, a < 1 → ∀ b, b < 1 → a ≠ b → (F_Ju a).2.1 ≠ (F_Ju b).2.1 := by decide +kernel
theorem t_Ju_ok : ∀ k, k < 1 → parseFieldDescriptor (F_Ju k).2.2.1 = some (t_Ju k) := by decide +kernel
theorem n_Br : ∀ a, a < 0 → ∀ b, b < 0 → a ≠ b → (F_Br a).2.1 ≠ (F_Br b).2.1 := by decide +kernel
theorem t_Br_ok : ∀ k, k < 0 → parseFieldDescriptor (F_Br k).2.2.1 = some (t_Br k) := by decide +kernel
theorem n_Ld : ∀ a, a < 0 → ∀ b, b < 0 → a ≠ b → (F_Ld a).2.1 ≠ (F_Ld b).2.1 := by decide +kernel
theorem t_Ld_ok : ∀ k, k < 0 → parseFieldDescriptor (F_Ld k).2.2.1 = some (t_Ld k) := by decide +kernel
theorem n_Sr : ∀ a, a < 0 → ∀ b, b < 0 → a ≠ b → (F_Sr a).2.1 ≠ (F_Sr b).2.1 := by decide +kernel
theorem t_Sr_ok : ∀ k, k < 0 → parseFieldDescriptor (F_Sr k).2.2.1 = some (t_Sr k) := by decide +kernel
theorem n_Rk : ∀ a, a < 1 → ∀ b, b < 1 → a ≠ b → (F_Rk a).2.1 ≠ (F_Rk b).2.1 := by decide +kernel
theorem t_Rk_ok : ∀ k, k < 1 → parseFieldDescriptor (F_Rk k).2.2.1 = some (t_Rk k) := by decide +kernel
theorem n_Ss : ∀ a, a < 4 → ∀ b, b < 4 → a ≠ b → (F_Ss a).2.1 ≠ (F_Ss b).2.1 := by decide +kernel
theorem t_Ss_ok : ∀ k, k < 4 → parseFieldDescriptor (F_Ss k).2.2.1 = some (t_Ss k) := by decide +kernel
theorem n_Sy : ∀ a, a < 4 → ∀ b, b < 4 → a ≠ b → (F_Sy a).2.1 ≠ (F_Sy b).2.1 := by decide +kernel
theorem t_Sy_ok : ∀ k, k < 4 → parseFieldDescriptor (F_Sy k).2.2.1 = some (t_Sy k) := by decide +kernel
theorem n_AL : ∀ a, a < 3 → ∀ b, b < 3 → a ≠ b → (F_AL a).2.1 ≠ (F_AL b).2.1 := by decide +kernel
theorem t_AL_ok : ∀ k, k < 3 → parseFieldDescriptor (F_AL k).2.2.1 = some (t_AL k) := by decide +kernel
theorem n_Re : ∀ a, a < 10 → ∀ b, b < 10 → a ≠ b → (F_Re a).2.1 ≠ (F_Re b).2.1 := by decide +kernel
theorem t_Re_ok : ∀ k, k < 10 → parseFieldDescriptor (F_Re k).2.2.1 = some (t_Re k) := by decide +kernel
theorem n_Im : ∀ a, a < 2 → ∀ b, b < 2 → a ≠ b → (F_Im a).2.1 ≠ (F_Im b).2.1 := by decide +kernel
theorem t_Im_ok : ∀ k, k < 2 → parseFieldDescriptor (F_Im k).2.2.1 = some (t_Im k) := by decide +kernel
theorem n_Ep : ∀ a, a < 3 → ∀ b, b < 3 → a ≠ b → (F_Ep a).2.1 ≠ (F_Ep b).2.1 := by decide +kernel
theorem t_Ep_ok : ∀ k, k < 3 → parseFieldDescriptor (F_Ep k).2.2.1 = some (t_Ep k) := by decide +kernel
theorem n_Pl : ∀ a, a < 4 → ∀ b, b < 4 → a ≠ b → (F_Pl a).2.1 ≠ (F_Pl b).2.1 := by decide +kernel
theorem t_Pl_ok : ∀ k, k < 4 → parseFieldDescriptor (F_Pl k).2.2.1 = some (t_Pl k) := by decide +kernel
theorem n_Mo : ∀ a, a < 7 → ∀ b, b < 7 → a ≠ b → (F_Mo a).2.1 ≠ (F_Mo b).2.1 := by decide +kernel
theorem t_Mo_ok : ∀ k, k < 7 → parseFieldDescriptor (F_Mo k).2.2.1 = some (t_Mo k) := by decide +kernel
theorem n_TM : ∀ a, a < 31 → ∀ b, b < 31 → a ≠ b → (F_TM a).2.1 ≠ (F_TM b).2.1 := by decide +kernel
theorem t_TM_ok : ∀ k, k < 31 → parseFieldDescriptor (F_TM k).2.2.1 = some (t_TM k) := by decide +kernel
