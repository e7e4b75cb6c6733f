/-! THE LAYER: words, worlds by segments, the judgement Ex, contracts Ct -/
section EGA
/-- words that have a 'moved' of their own -/
def eg_nest : Cond → Bool
  | .fieldLinkNest .. => true
  | .methodLinkNest .. => true
  | .arrayClass _ => true
  | .arrayOver (.object _) => true
  | _ => false
/-- words that stay true as the tables get warmer, whatever the heap and the arguments -/
def eg_ok (c : Cond) : Bool := eg_nest c || (c.onTables && (c.keeps || c.faceAtom))
theorem eg_nest_moved {args a' : Array Value} {s U : State} (hW : s.WarmedH U.vm) : ∀ c : Cond, eg_nest c = true → c.before args s = true → c.before a' U = true := by
  intro c hc h
  cases c with
  | fieldLinkNest a i b n d hh => exact va_Nw.use rfl (va_Nw.warmF hW (va_Nw.of rfl h))
  | methodLinkNest a i x hh => exact va_Nw.use rfl (va_Nw.warmM hW (va_Nw.of rfl h))
  | arrayClass ty => exact word_at hW (Or.inr ⟨_, rfl⟩) h
  | arrayOver ty =>
    cases ty with
    | object C => exact va_AO.use (va_AO.moved hW.alike (va_AO.of h))
    | _ => exact absurd hc (by simp [eg_nest])
  | _ => exact absurd hc (by simp [eg_nest])
theorem eg_word {args a' : Array Value} {s U : State} (hW : s.WarmedH U.vm) {c : Cond} (hc : eg_ok c = true) (h : c.before args s = true) : c.before a' U = true := by
  unfold eg_ok at hc
  rw [Bool.or_eq_true, Bool.and_eq_true, Bool.or_eq_true] at hc
  rcases hc with hc | ⟨h1, hc | hc⟩
  · exact eg_nest_moved hW c hc h
  · exact word_at hW (Or.inl (by rw [h1, hc]; rfl)) h
  · have h2 := Cond.faceAtom_setVm (args := args) hW.alike c hc h
    rw [Cond.onTables_vm (A' := a') (U' := U) U.vm c h1] at h2
    exact h2
def eg_ws : List Cond := lw_tbl.filter eg_ok
theorem eg_in {w : Cond} (h : w ∈ lw_tbl) (k : eg_ok w = true) : w ∈ eg_ws := List.mem_filter.mpr ⟨h, k⟩
theorem eg_moved {args a' : Array Value} {s U : State} (hW : s.WarmedH U.vm) (h : ∀ w ∈ eg_ws, w.before args s = true) : ∀ w ∈ eg_ws, w.before a' U = true :=
  fun w hw => eg_word hW (List.mem_filter.mp hw).2 (h w hw)
/-- numbers of the run: the classes', their fields' slots, the array classes', ArrayList's empty array, the Class object of Object[] -/
abbrev eg_G : Type := (Nat → ClassId) × (Nat → Nat → Nat) × (Nat → ClassId) × Nat × Nat
abbrev eg_D (G : eg_G) : va_G := (G.1, G.2.1)
abbrev eg_c (G : eg_G) (k : Nat) : ClassId := G.2.2.1 k
def eg_tys (G : eg_G) : List (ClassId × FieldType) := [(eg_c G 0, .byte), (eg_c G 1, .boolean), (eg_c G 2, .int), (eg_c G 3, .long), (eg_c G 4, .object "ModuleLoader$Does"), (eg_c G 5, .object "ModuleLoader$Symbol"), (eg_c G 6, .object "ModuleLoader$Module"), (eg_c G 7, .object "java/lang/Object")]
abbrev eg_S : Type := List va_W
abbrev x_ISE : String := "java/lang/IllegalStateException"
abbrev x_IAE : String := "java/lang/IllegalArgumentException"
abbrev x_IOB : String := "java/lang/IndexOutOfBoundsException"
abbrev x_UOE : String := "java/lang/UnsupportedOperationException"
abbrev x_THR : String := "java/lang/Throwable"
/-- a static field of Throwable's that holds a reference or null, and what 'laysStatic' says of it -/
def eg_Th (n d : String) (A : Nat → Prop) (U : State) (H : Heap) : Prop := ∃ (c : ClassId) (k : Class) (i : Nat) (f : Field) (a : Nat) (cell : Cell) (v : Value), U.vm.findClass x_THR = some c ∧ U.fieldFound? x_THR n d = some (c, k, i, f) ∧ f.isStatic = true ∧ k.statics = some a ∧ H[a]? = some cell ∧ cell.vm.isStatics = true ∧ cell.cls = c ∧ f.slot < cell.slots.size ∧ k.staticTypes[f.slot]? = some f.type ∧ cell.slots[f.slot]? = some v ∧ (v = .null ∨ ∃ t, v = .ref t) ∧ ¬ A a
theorem eg_Th.moved {n d : String} {A : Nat → Prop} {u U : State} {H : Heap} (hvm : u.vm.Alike U.vm) (h : eg_Th n d A u H) : eg_Th n d A U H := by
  obtain ⟨c, k, i, f, a, cell, v, h0, h1, h2, h3, h4, h5, h6, h7, h8, h9⟩ := h
  obtain ⟨k', hi', he⟩ := State.fieldFound?_setVm hvm h1
  exact ⟨c, k', i, f, a, cell, v, by rw [hvm.findClass]; exact h0, hi', h2, by rw [he]; exact h3, h4, h5, h6, h7, by rw [he]; exact h8, h9⟩
theorem eg_Th.kept {n d : String} {A : Nat → Prop} {U : State} {H H1 : Heap} (h : eg_Th n d A U H) (hq : ∀ a : Nat, a < H.size → ¬ A a → H1[a]? = H[a]?) : eg_Th n d A U H1 := by
  obtain ⟨c, k, i, f, a, cell, v, h0, h1, h2, h3, h4, h5, h6, h7, h8, h9, h10, h11⟩ := h
  exact ⟨c, k, i, f, a, cell, v, h0, h1, h2, h3, by rw [hq a (Array.getElem?_eq_some_iff.mp h4).1 h11]; exact h4, h5, h6, h7, h8, h9, h10, h11⟩
theorem eg_Th.narrow {n d : String} {A B : Nat → Prop} {U : State} {H : Heap} (h : eg_Th n d A U H) (hAB : ∀ q, B q → A q) : eg_Th n d B U H := by
  obtain ⟨c, k, i, f, a, cell, v, h0, h1, h2, h3, h4, h5, h6, h7, h8, h9, h10, h11⟩ := h
  exact ⟨c, k, i, f, a, cell, v, h0, h1, h2, h3, h4, h5, h6, h7, h8, h9, h10, fun z => h11 (hAB a z)⟩
theorem eg_Th.lays {n d : String} {A : Nat → Prop} {U : State} {args : Array Value} (h : eg_Th n d A U U.heap) : (Cond.laysStatic x_THR n d).before args U = true := by
  obtain ⟨c, k, i, f, a, cell, v, h0, h1, h2, h3, h4, h5, h6, h7, h8, h9, h10, h11⟩ := h
  simp only [Cond.before, Cond.holds, Cond.value, h0, h1, h3, Option.bind_some, h4, Option.map_some, h2, h5, h6, h8]
  simp [h7]
theorem eg_Th.isRef {n d : String} {A : Nat → Prop} {U : State} {args : Array Value} (h : eg_Th n d A U U.heap) : (Cond.isRef (.static x_THR n d)).before args U = true := by
  obtain ⟨c, k, i, f, a, cell, v, h0, h1, h2, h3, h4, h5, h6, h7, h8, h9, h10, h11⟩ := h
  have hv : (Term.static x_THR n d).eval args U none [] U = some v := by
    simp [Term.eval, State.fieldNamed?, h1, h2, h3, h4, h5, h9]
  rcases h10 with rfl | ⟨t, rfl⟩ <;> simp [Cond.before, Cond.holds, Cond.value, hv]
abbrev eg_ste : String := "[Ljava/lang/StackTraceElement;"
abbrev eg_lst : String := "Ljava/util/List;"
abbrev eg_dce : String := "DEFAULTCAPACITY_EMPTY_ELEMENTDATA"
/-- what every method knows of the tables and of the old heap; A: where it may write -/
def eg_K (G : eg_G) (A : Nat → Prop) (U : State) : Prop :=
  va_K (eg_D G) classes (eg_tys G) U ∧ va_Nc x_ISE x_IOB U ∧ va_Nc x_ISE x_IAE U ∧
  va_Z "java/util/ArrayList" eg_dce "[Ljava/lang/Object;" (.ref G.2.2.2.1) A U U.heap ∧ va_T (.object "java/lang/Object") G.2.2.2.1 0 (fun _ => .null) A U U.heap ∧
  va_Mi "[Ljava/lang/Object;" G.2.2.2.2 U ∧ eg_Th "UNASSIGNED_STACK" eg_ste A U U.heap ∧ eg_Th "SUPPRESSED_SENTINEL" eg_lst A U U.heap
theorem eg_K.at {G : eg_G} {A B : Nat → Prop} {s U : State} {H : Heap} {locs : List Loc} (h : eg_K G A s) (hvm : s.vm.Alike U.vm) (hS : va_S A s.heap H locs) (hU : U.heap = H) (hAB : ∀ q, B q → A q) : eg_K G B U := by
  obtain ⟨h1, h2, h3, h4, h5, h6, h7, h8⟩ := h
  refine ⟨va_K.moved hvm h1, va_Nc.moved hvm h2, va_Nc.moved hvm h3, ?_, ?_, va_Mi.moved hvm h6, ?_, ?_⟩
  · rw [hU]; exact ((h4.moved hvm).kept hS.2.1).narrow hAB
  · rw [hU]; exact ((h5.moved hvm).kept hS.2.1).narrow hAB
  · rw [hU]; exact ((h7.moved hvm).kept hS.2.1).narrow hAB
  · rw [hU]; exact ((h8.moved hvm).kept hS.2.1).narrow hAB
theorem eg_K.same {G : eg_G} {A : Nat → Prop} {s U : State} (h : eg_K G A s) (h1 : U.vm = s.vm) (h2 : U.heap = s.heap) : eg_K G A U := by
  have hvm : s.vm.Alike U.vm := by rw [h1]; exact Vm.Alike.refl _
  exact h.at hvm (va_S.rf (A := A) (H0 := s.heap)) h2 (fun _ z => z)
end EGA
section EGB
/-- how a method ends: it returns, or throws a new object of the class -/
abbrev eg_O : Type := Option Value ⊕ String
def eg_Xc (E : String) (a : Nat) (t : State) : Prop := ∃ cell : Cell, t.heap[a]? = some cell ∧ cell.vm.isStatics = false ∧ t.vm.findClass E = some cell.cls
def eg_end (oc : eg_O) (o : Outcome) (t : State) : Prop := match oc with
  | .inl v => o = .returned v
  | .inr E => ∃ a : Nat, o = .threw a ∧ eg_Xc E a t
def eg_FE (first t : State) (L : List Loc) (k n : Nat) : Prop := first.WarmedH t.vm ∧ first.sameButNew ({ t with vm := first.vm } : State) L k n
def eg_R (d mc ms : Nat) : Room := { frames := d, cells := mc, slots := ms, locals := 100 * d }
def eg_Pc (G : eg_G) (av : List Value) (S : eg_S) : Array Value → State → Prop := fun v U => v = av.toArray ∧ va_P (eg_D G) classes S.flatten U.heap ∧ va_D (fun _ => True) S.flatten ∧ eg_K G (va_A S.flatten U.heap.size) U
def eg_Qc (G : eg_G) (S : eg_S) (K : eg_O → eg_S → Prop) (mc ms : Nat) : Array Value → State → Outcome → State → Prop := fun _ st o t =>
  (∃ (oc : eg_O) (S' : eg_S), eg_end oc o t ∧ K oc S' ∧ va_P (eg_D G) classes S'.flatten t.heap ∧ va_D (va_A S.flatten st.heap.size) S'.flatten) ∧ va_F (va_A S.flatten st.heap.size) st t ∧ ∃ L, eg_FE st t L mc ms ∧ ∀ q ∈ L, va_A S.flatten st.heap.size q.base
/-- THE CONTRACT: y with the arguments av, in a heap that holds the segments S, ends with K -/
def Ct (l : Launch) (G : eg_G) (y : MethodName) (d mc ms : Nat) (av : List Value) (S : eg_S) (K : eg_O → eg_S → Prop) : Prop :=
  l.flags = flags0 → MetFree l y (headSpec eg_ws (eg_R d mc ms)) (eg_Pc G av S) (fun _ _ _ _ _ => True) (eg_Qc G S K mc ms)
abbrev eg_C : Type := Program × Launch × Env × Room × State × MethodId × Array Value × List Frame × Method × Code × (Nat → Prop) × (State → Prop)
/-- a method: its class, bytes, return type, name, handlers -/
abbrev eg_M : Type := String × ByteArray × Option FieldType × String × List (Nat × Nat × Nat × Nat)
def eg_Ok (G : eg_G) (Γ : eg_C) (μ : eg_M) : Prop := match Γ with
  | (p, l, e, _, s, m, args, _, meth, c, A, _) => p.tables.exec = Jvm.exec ∧ c.code = μ.2.1 ∧ s.vm.findClass μ.1 = some m.cls ∧ (∀ w ∈ eg_ws, w.before args s = true) ∧ meth.sig.returnType = μ.2.2.1 ∧ meth.locks = false ∧ meth.name = μ.2.2.2.1 ∧ eg_K G A s ∧ (∀ q, s.heap.size ≤ q → A q) ∧ (∀ q, A q → ∀ cell : Cell, s.heap[q]? = some cell → cell.vm.isStatics = false) ∧ l.flags = flags0 ∧ e.platform.stackTraces = false ∧ c.exceptionTable.toList.map (fun h => (h.startPc, h.endPc, h.handlerPc, h.catchType)) = μ.2.2.2.2
def eg_L (ls : Array Slot) (c : Code) (lv : List (Option Value)) : Prop := ls.size = c.maxLocals ∧ lv.length = c.maxLocals ∧ lv_wf ls ∧ ∀ (i : Nat) (v : Value), lv[i]? = some (some v) → ls[i]? = some (.val v) ∧ v.category = 1
/-- THE JUDGEMENT: at pc, with locals lv, stack st, segments S, at most n new cells of k slots so far -/
def Ex (G : eg_G) (Γ : eg_C) (μ : eg_M) (pc : Nat) (lv : List (Option Value)) (st : List Value) (S : eg_S) (n k : Nat) : Prop := match Γ with
  | (p, l, e, R, s, m, args, below, meth, c, A, Q) => eg_Ok G (p, l, e, R, s, m, args, below, meth, c, A, Q) μ → ∀ (H : Heap) (locs : List Loc) (ls : Array Slot) (cells slots : Nat), cells ≤ n → slots ≤ k → eg_L ls c lv → va_P (eg_D G) classes S.flatten H → va_D A S.flatten → va_S A s.heap H locs → W p l e R s m args below meth c H locs cells slots Q (F0 m pc ls st)
def eg_MQ (below : List Frame) (G : eg_G) (S : eg_S) (K : eg_O → eg_S → Prop) (mc ms : Nat) (a : Array Value) (s : State) : State → Prop := fun t => ∃ o, t.status = .running ∧ Ended t below o ∧ eg_Qc G S K mc ms a s o t
/-- Γ is a run of a method with the contract's numbers -/
def eg_Is (l : Launch) (Γ : eg_C) (G : eg_G) (S : eg_S) (K : eg_O → eg_S → Prop) (d mc ms : Nat) : Prop := match Γ with
  | (_, l', _, R, s, _, args, below, _, _, A, Q) => l' = l ∧ R = eg_R d mc ms ∧ A = va_A S.flatten s.heap.size ∧ Q = eg_MQ below G S K mc ms args s
/-- the room that is left -/
def eg_Rm (l : Launch) (Γ : eg_C) (d mc ms : Nat) : Prop := match Γ with
  | (_, l', _, R, _, _, _, _, _, _, _, _) => l' = l ∧ d ≤ R.frames ∧ R.cells = mc ∧ R.slots = ms ∧ 100 * d ≤ R.locals
theorem eg_Is.rm {l : Launch} {Γ : eg_C} {G : eg_G} {S : eg_S} {K : eg_O → eg_S → Prop} {d mc ms : Nat} (h : eg_Is l Γ G S K d mc ms) : eg_Rm l Γ d mc ms := by
  obtain ⟨p, l', e, R, s, m, args, below, meth, c, A, Q⟩ := Γ
  obtain ⟨h0, h1, -⟩ := h
  subst h1
  exact ⟨h0, Nat.le_refl _, rfl, rfl, Nat.le_refl _⟩
def dx (μ : eg_M) (pc : Nat) (i : Instr) (len nx : Nat) : Prop := decode μ.2.1 pc = .ok (i, len) ∧ pc + len = nx
def dj (μ : eg_M) (pc : Nat) (i : Instr) (off : Int) (nx tgt : Nat) : Prop := decode μ.2.1 pc = .ok (i, 3) ∧ pc + 3 = nx ∧ (pc : Int) + off = (tgt : Int)
end EGB
