/-! contracts from bodies; invoking; what a call comes to -/
section EGC
/-- y is the method μ, of nL locals, by the tables -/
def cdx (y : MethodName) (μ : eg_M) (nL : Nat) : Prop := plainName y.cls = true ∧ y.cls = μ.1 ∧ y.name = μ.2.2.2.1 ∧ Cond.initialized y.cls ∈ eg_ws ∧ ((μ.2.2.2.2 = [] ∧ Cond.code y μ.2.1 nL μ.2.2.1 ∈ eg_ws) ∨ Cond.codeWith y μ.2.1 nL μ.2.2.1 μ.2.2.2.2 ∈ eg_ws)
theorem cdx_spec {y : MethodName} {μ : eg_M} {nL : Nat} {args : Array Value} {s : State} (h : cdx y μ nL) (hts : ∀ w ∈ eg_ws, w.before args s = true) : ∃ (m : MethodId) (meth : Method) (c : Code), s.methodNamed? y = some m ∧ s.vm.method? m = some meth ∧ meth.code = some c ∧ c.code = μ.2.1 ∧ c.maxLocals = nL ∧ meth.sig.returnType = μ.2.2.1 ∧ meth.locks = false ∧ c.exceptionTable.toList.map (fun h => (h.startPc, h.endPc, h.handlerPc, h.catchType)) = μ.2.2.2.2 ∧ parseMethodDescriptor y.desc = some meth.sig := by
  obtain ⟨-, -, -, -, ⟨h0, h⟩ | h⟩ := h
  · obtain ⟨m, hn⟩ := Cond.code_named (hts _ h)
    obtain ⟨meth, c, h1, h2, h3, h4, h5, h6, h7, h8⟩ := Cond.code_spec hn (hts _ h)
    have h9 : c.exceptionTable.toList = [] := by
      have : c.exceptionTable.size = 0 := by simpa [Array.isEmpty] using h7
      exact List.eq_nil_of_length_eq_zero (by simpa using this)
    exact ⟨m, meth, c, hn, h1, h2, h3, h4, h5, h6, by rw [h9, h0]; rfl, h8⟩
  · obtain ⟨m, meth, c, hn, h1, h2, h3, h4, h5, h6, h7, h8⟩ := Cond.codeWith_spec (hts _ h)
    exact ⟨m, meth, c, hn, h1, h2, h3, h4, h6, h7, h5, h8⟩
theorem eg_args : ∀ (av : List Value), (∀ v ∈ av, v.category = 1) → lg_sl av = av.map Slot.val
  | [], _ => rfl
  | v :: av, h => by
    have hv : ¬ v.category = 2 := by rw [h v List.mem_cons_self]; decide
    have h1 := eg_args av (fun w hw => h w (List.mem_cons_of_mem _ hw))
    show (v :: av).flatMap _ = _
    rw [List.flatMap_cons, if_neg hv]
    show _ :: lg_sl av = _
    rw [h1]; rfl
theorem eg_entry {m : MethodId} {av : List Value} {nL : Nat} {c : Code} (hc : c.maxLocals = nL) (hcat : ∀ v ∈ av, v.category = 1) (hlen : av.length ≤ nL) : ∃ ls : Array Slot, entryFrame m av.toArray nL = F0 m 0 ls [] ∧ eg_L ls c (av.map some ++ List.replicate (nL - av.length) none) := by
  have e1 := eg_args av hcat
  have hl := lv_entry av (n := nL) (by rw [e1, List.length_map]; exact hlen)
  refine ⟨_, lg_entry_eq m av nL, by rw [hc]; exact hl.1, ?_, hl.2.1, fun i v hi => ?_⟩
  · rw [hc, List.length_append, List.length_map, List.length_replicate]; omega
  · have hlt : i < av.length := by
      rcases Nat.lt_or_ge i av.length with z | z
      · exact z
      · rw [List.getElem?_append_right (by rw [List.length_map]; exact z), List.length_map, List.getElem?_replicate] at hi
        split at hi <;> cases hi
    rw [List.getElem?_append_left (by rw [List.length_map]; exact hlt), List.getElem?_map] at hi
    have hv : av[i]? = some v := by
      cases hq : av[i]? with
      | none => rw [hq] at hi; cases hi
      | some w => rw [hq] at hi; cases hi; rfl
    refine ⟨?_, hcat v (List.mem_of_getElem? hv)⟩
    rw [e1, List.getElem?_toArray, List.getElem?_append_left (by rw [List.length_map]; exact hlt), List.getElem?_map, hv]
    rfl
theorem Ct.of {l : Launch} {G : eg_G} {y : MethodName} {μ : eg_M} {nL d mc ms : Nat} {av : List Value} {S : eg_S} {K : eg_O → eg_S → Prop} (hc : cdx y μ nL) (hcat : ∀ v ∈ av, v.category = 1) (hlen : av.length ≤ nL) (body : ∀ Γ : eg_C, eg_Is l Γ G S K d mc ms → Ex G Γ μ 0 (av.map some ++ List.replicate (nL - av.length) none) [] S 0 0) : Ct l G y d mc ms av S K := by
  intro hfl
  refine MetFree.of_bodyS (code := μ.2.1) (maxLocals := nL) (ret := μ.2.2.1) hc.1 ?_ ?_
  · intro args s m h hn
    obtain ⟨m9, meth, c, hn9, h1, h2, h3, h4, h5, h6, -, -⟩ := cdx_spec hc (atoms_spec (ws := eg_ws) h)
    cases hn.symm.trans hn9
    exact ⟨meth, c, h1, h2, h3, h4, h5, h6⟩
  · intro p e s m args below meth c s₁ B hml hP _
    obtain ⟨rfl, hP, hD, hK⟩ := hP
    have hh0 : s₁.heap = s.heap := by rw [B.state]; rfl
    have hts := atoms_spec (ws := eg_ws) B.pre
    have X₀ := Stand.of_body B
    obtain ⟨m9, meth9, c9, hn9, q1, q2, q3, q4, q5, q6, q7, -⟩ := cdx_spec hc hts
    cases B.named.symm.trans hn9
    cases B.method.symm.trans q1
    cases X₀.code.symm.trans q2
    obtain ⟨ls, hent, hL⟩ := eg_entry (m := m) hml hcat hlen
    have hpl : e.platform.stackTraces = false := by
      rw [B.admits.platform]
      show l.stackTraces = false
      unfold Launch.stackTraces
      rw [hfl]
      decide +kernel
    have hst : ∀ q, va_A S.flatten s.heap.size q → ∀ cell : Cell, s.heap[q]? = some cell → cell.vm.isStatics = false := by
      intro q hq cell hcell
      rcases hq with ⟨k, e0, hq⟩ | hq
      · have := hP k _ hq
        cases e0 with
        | inl x =>
          obtain ⟨cA, nA, xA⟩ := x
          have h9 : s.heap[q]? = some (vp_cell cA (nA, xA)) := this
          cases hcell.symm.trans h9
          rcases xA with z | z | z | z | z <;> rfl
        | inr o =>
          obtain ⟨r, -, cell', h1, h2, h3, -⟩ := this
          cases hcell.symm.trans h1
          rw [h3]; rfl
      · exact absurd (Array.getElem?_eq_some_iff.mp hcell).1 (by omega)
    have b := body (p, l, e, eg_R d mc ms, s, m, av.toArray, below, meth, c, va_A S.flatten s.heap.size, eg_MQ below G S K mc ms av.toArray s) ⟨rfl, rfl, rfl, rfl⟩
      ⟨B.exec, B.bytes, by rw [← hc.2.1]; exact findClass_of_methodNamed B.named, hts, B.returns, B.notSynchronized, by rw [← hc.2.2.1]; exact (name_of_methodNamed B.named B.method).1, hK, fun q h => Or.inr h, hst, hfl, hpl, q7⟩
      s.heap [] ls 0 0 (Nat.le_refl _) (Nat.le_refl _) hL hP hD.self va_S.rf
    obtain ⟨t, a1, o, b1, b2, b3⟩ := b s₁ hh0 X₀
    exact ⟨t, o, by rw [hent]; exact a1, b1, b2, b3⟩
end EGC
section EGI
/-- at pc the machine comes to invoke y with av -/
def eg_Inv (G : eg_G) (Γ : eg_C) (μ : eg_M) (pc : Nat) (lv : List (Option Value)) (st : List Value) (S : eg_S) (y : MethodName) (av rest : List Value) (len : Nat) : Prop := match Γ with
  | (p, l, e, R, s, m, args, below, meth, c, A, Q) => eg_Ok G (p, l, e, R, s, m, args, below, meth, c, A, Q) μ → ∀ (H : Heap) (ls : Array Slot), eg_L ls c lv → va_P (eg_D G) classes S.flatten H → ∀ (T : State) (locs : List Loc) (cells slots : Nat), T.heap = H → Stand p l e R s m args below meth c T locs cells slots → ∃ (vm₁ : Vm) (mk : MethodId) (ig : Instr), s.WarmedH vm₁ ∧ Stand p l e R s m args below meth c (T.setVm vm₁) locs cells slots ∧ (T.setVm vm₁).methodNamed? y = some mk ∧ decode c.code pc = .ok (ig, len) ∧ ∀ target, Steps p.tables e below (doInvoke e ((T.setVm vm₁).setTop (F0 m pc ls rest)) [] mk av.toArray).1 target → Steps p.tables e below (T.setTop (F0 m pc ls st)) target
abbrev eg_nmh (y : MethodName) : Prop := y.cls ≠ "java/lang/invoke/MethodHandle" ∧ y.cls ≠ "java/lang/invoke/VarHandle"
def cxL (own : String) (idx : Nat) (y : MethodName) (na : Nat) : Prop := eg_nmh y ∧ (parseMethodDescriptor y.desc).map (fun d => d.parameters.length) = some na ∧ (Cond.methodLink own idx y ∈ eg_ws ∨ ∃ host, Cond.methodLinkNest own idx y host ∈ eg_ws)
def cxS (own : String) (idx : Nat) (y : MethodName) (na : Nat) : Prop := cxL own idx y na ∧ Cond.static y ∈ eg_ws
def cxV (own : String) (idx : Nat) (y : MethodName) (na : Nat) : Prop := cxL own idx y na ∧ Cond.instanceMethod y ∈ eg_ws ∧ Cond.selects y.cls y y ∈ eg_ws
def cxI (own : String) (idx : Nat) (y : MethodName) (na : Nat) : Prop := cxL own idx y na ∧ Cond.instanceMethod y ∈ eg_ws ∧ y.name = "<init>"
def cxF (own : String) (idx : Nat) (C : String) (x y : MethodName) (na : Nat) : Prop := eg_nmh x ∧ (parseMethodDescriptor x.desc).map (fun d => d.parameters.length) = some na ∧ Cond.methodLink own idx x ∈ eg_ws ∧ Cond.declares x ∈ eg_ws ∧ Cond.interfaceMethod x.cls x.cls x.name x.desc ∈ eg_ws ∧ Cond.selects C x y ∈ eg_ws ∧ Cond.instanceMethod y ∈ eg_ws ∧ Cond.publicMethod y ∈ eg_ws ∧ Cond.unhidden C x.name x.desc ∈ eg_ws ∧ Cond.castable C x.cls ∈ eg_ws
theorem eg_na {y : MethodName} {na : Nat} {sig : MethodDescriptor} (h : (parseMethodDescriptor y.desc).map (fun d => d.parameters.length) = some na) (hs : parseMethodDescriptor y.desc = some sig) : na = sig.parameters.length := by
  rw [hs] at h
  exact (Option.some.inj h).symm
variable {G : eg_G} {Γ : eg_C} {μ μy : eg_M} {pc nx n k nLy idx : Nat} {lv : List (Option Value)} {st av rest : List Value} {S : eg_S} {y : MethodName}
theorem eg_invS {na : Nat} (hd : dx μ pc (.invokestatic idx) 3 nx) (hy : cdx y μy nLy) (hc : cxS μ.1 idx y na) (hna : av.length = na) (hst : st = av.reverse ++ rest) : eg_Inv G Γ μ pc lv st S y av rest 3 := by
  subst hna
  subst hst
  obtain ⟨p, l, e, R, s, m, args, below, meth, c, A, Q⟩ := Γ
  intro ok H ls hl hP T locs cells slots hT X
  obtain ⟨hx, hb, hown, hts, -⟩ := ok
  obtain ⟨mk, methM, cM, hnamed, hmethM, -, -, -, -, -, -, hsigM⟩ := cdx_spec hy hts
  obtain ⟨⟨hmh, hna, hlink⟩, hstat⟩ := hc
  have hstatic : methM.isStatic = true := Cond.static_spec hnamed hmethM (hts _ hstat)
  obtain ⟨kP, hkP, -⟩ := className_of_methodNamed hnamed
  have hinitP : kP.init = .initialized := Cond.initialized_spec (findClass_of_methodNamed hnamed) hkP (hts _ hy.2.2.2.1)
  have hd' : decode c.code pc = .ok (.invokestatic idx, 3) := by rw [hb]; exact hd.1
  rcases hlink with hlink | ⟨host, hlink⟩
  · obtain ⟨vm₁, X₁, hstep₁⟩ := X.invokestatic hx hown (hts _ hlink) hnamed hmethM hstatic hkP hinitP hmh (g := F0 m pc ls (av.reverse ++ rest)) rfl (argsL := av) (rest := rest) (eg_na hna hsigM) rfl hd'
    exact ⟨vm₁, mk, _, X₁.warmed, X₁, X₁.named hnamed, hd', fun target h => hstep₁ _ fun acts => by rw [doInvoke_state]; exact h⟩
  · obtain ⟨vm₁, X₁, hstep₁⟩ := X.invokestaticNest hx hown (hts _ hlink) hnamed hmethM hstatic hkP hinitP hmh (g := F0 m pc ls (av.reverse ++ rest)) rfl (argsL := av) (rest := rest) (eg_na hna hsigM) rfl hd'
    exact ⟨vm₁, mk, _, X₁.warmed, X₁, X₁.named hnamed, hd', fun target h => hstep₁ _ fun acts => by rw [doInvoke_state]; exact h⟩
theorem eg_invV (kS : Nat) {P : va_W} {b ci N na : Nat} {T : u_T} {fs : List Value} (hd : dx μ pc (.invokevirtual idx) 3 nx) (hy : cdx y μy nLy) (hc : cxV μ.1 idx y na) (hcl : classes[ci]? = some (y.cls, T, N)) (hk : S[kS]? = some P) (hm : (b, .inr (ci, fs)) ∈ P) (hna : av.length = na) (hst : st = av.reverse ++ .ref b :: rest) : eg_Inv G Γ μ pc lv st S y (.ref b :: av) rest 3 := by
  subst hna
  subst hst
  obtain ⟨p, l, e, R, s, m, args, below, meth, c, A, Q⟩ := Γ
  intro ok H ls hl hP U locs cells slots hT X
  obtain ⟨z, hz⟩ := eg_mem hk hm
  obtain ⟨hx, hb, hown, hts, -, -, -, hK, -⟩ := ok
  obtain ⟨cellB, hcell, hobj, hcls⟩ := va_recv hK.1 hP hcl hz
  obtain ⟨mk, methM, cM, hnamed, hmethM, -, -, -, -, -, -, hsigM⟩ := cdx_spec hy hts
  obtain ⟨⟨hmh, hna, hlink⟩, hinst, hsel⟩ := hc
  obtain ⟨mk', methM', hnamed', hmethM', hstM, habM⟩ := Cond.instanceMethod_spec (hts _ hinst)
  cases hnamed.symm.trans hnamed'
  cases hmethM.symm.trans hmethM'
  obtain ⟨c2, r2, m2, q1, q2, q3, q4, kP, hkP, hkPi⟩ := Cond.selects_spec (hts _ hsel)
  cases hcls.symm.trans q1
  cases (State.methodFound?_of_named hnamed hmh).symm.trans q2
  cases hnamed.symm.trans q3
  have hselP : selectMethod e.platform s.vm cellB.cls mk = .method mk := by rw [Launch.admits_selectMethod X.admits]; exact q4
  have hd' : decode c.code pc = .ok (.invokevirtual idx, 3) := by rw [hb]; exact hd.1
  rcases hlink with hlink | ⟨host, hlink⟩
  · obtain ⟨vm₁, X₁, hstep₁⟩ := X.invokevirtual hx hown (hts _ hlink) hnamed hmethM hstM hkP hkPi hmh (a := b) (cell := cellB) (by rw [hT]; exact hcell)
      (fun z h => by rw [h] at hobj; cases hobj) hselP hmethM habM hkP hkPi (g := F0 m pc ls (av.reverse ++ .ref b :: rest)) rfl (argsL := av) (rest := rest) (eg_na hna hsigM) rfl hd'
    exact ⟨vm₁, mk, _, X₁.warmed, X₁, X₁.named hnamed, hd', fun target h => hstep₁ _ fun acts => by rw [doInvoke_state]; exact h⟩
  · obtain ⟨vm₁, X₁, hstep₁⟩ := X.invokevirtualNest hx hown (hts _ hlink) hnamed hmethM hstM hkP hkPi hmh (a := b) (cell := cellB) (by rw [hT]; exact hcell)
      (fun z h => by rw [h] at hobj; cases hobj) hselP hmethM habM hkP hkPi (g := F0 m pc ls (av.reverse ++ .ref b :: rest)) rfl (argsL := av) (rest := rest) (eg_na hna hsigM) rfl hd'
    exact ⟨vm₁, mk, _, X₁.warmed, X₁, X₁.named hnamed, hd', fun target h => hstep₁ _ fun acts => by rw [doInvoke_state]; exact h⟩
theorem eg_invI {b na : Nat} (hd : dx μ pc (.invokespecial idx) 3 nx) (hy : cdx y μy nLy) (h0 : μy.2.2.1 = none) (h00 : μy.2.2.2.2 = []) (hcw : Cond.code y μy.2.1 nLy none ∈ eg_ws) (hc : cxI μ.1 idx y na) (hna : av.length = na) (hst : st = av.reverse ++ .ref b :: rest) : eg_Inv G Γ μ pc lv st S y (.ref b :: av) rest 3 := by
  subst hna
  subst hst
  obtain ⟨p, l, e, R, s, m, args, below, meth, c, A, Q⟩ := Γ
  intro ok H ls hl hP T locs cells slots hT X
  obtain ⟨hx, hb, hown, hts, -⟩ := ok
  obtain ⟨⟨hmh, hna, hlink⟩, hinst, hnm⟩ := hc
  have hpl : e.platform.magicAccessors = ({} : Platform).magicAccessors := by rw [X.admits.platform]
  have hd' : decode c.code pc = .ok (.invokespecial idx, 3) := by rw [hb]; exact hd.1
  rcases hlink with hlink | ⟨host, hlink⟩
  · obtain ⟨mk, methM, cM, kP, vm₁, hnamed, hmethM, hcodeM, -, hlocalsM, -, hkP, -, hW₁, hstep₁⟩ := Steps.initColdArgs (e := e) (below := below) (tb := p.tables) X.here hx X.warmed hpl hown hnm hmh (hts _ hlink) (hts _ hinst) (hts _ hcw) (f := F0 m pc ls (av.reverse ++ .ref b :: rest)) rfl (argsL := av) (rest := rest) (fun sig h => eg_na hna h) rfl hd'
    have X₁ := X.noted hW₁
    exact ⟨vm₁, mk, _, hW₁, X₁, X₁.named hnamed, hd', fun target h => hstep₁ _ fun acts => by rw [doInvoke_state]; exact h⟩
  · obtain ⟨mk, methM, cM, kP, vm₁, hnamed, hmethM, hcodeM, -, hlocalsM, -, hkP, -, hW₁, hstep₁⟩ := Steps.initColdArgsNest (e := e) (below := below) (tb := p.tables) X.here hx X.warmed hpl hown hnm hmh (hts _ hlink) (hts _ hinst) (hts _ hcw) (f := F0 m pc ls (av.reverse ++ .ref b :: rest)) rfl (argsL := av) (rest := rest) (fun sig h => eg_na hna h) rfl hd'
    have X₁ := X.noted hW₁
    exact ⟨vm₁, mk, _, hW₁, X₁, X₁.named hnamed, hd', fun target h => hstep₁ _ fun acts => by rw [doInvoke_state]; exact h⟩
theorem eg_invF (kS : Nat) {P : va_W} {b ci N cnt na : Nat} {C : String} {T : u_T} {fs : List Value} {xi : MethodName} (hd : dx μ pc (.invokeinterface idx cnt) 5 nx) (hy : cdx y μy nLy) (hc : cxF μ.1 idx C xi y na) (hcl : classes[ci]? = some (C, T, N)) (hk : S[kS]? = some P) (hm : (b, .inr (ci, fs)) ∈ P) (hna : av.length = na) (hst : st = av.reverse ++ .ref b :: rest) : eg_Inv G Γ μ pc lv st S y (.ref b :: av) rest 5 := by
  subst hna
  subst hst
  obtain ⟨p, l, e, R, s, m, args, below, meth, c, A, Q⟩ := Γ
  intro ok H ls hl hP U locs cells slots hT X
  obtain ⟨z, hz⟩ := eg_mem hk hm
  obtain ⟨hx, hb, hown, hts, -, -, -, hK, -⟩ := ok
  obtain ⟨cellB, hcell, hobj, hcls⟩ := va_recv hK.1 hP hcl hz
  obtain ⟨hfc, kB, hkB, -⟩ := (hK.1.1 ci _ hcl).2
  have hkB : s.vm.classes[cellB.cls]? = some kB := by rw [Option.some.inj (hcls.symm.trans hfc)]; exact hkB
  obtain ⟨hmh, hna, hlink, hdecl, hface, hsel, hinst, hpub, hunh, hcast⟩ := hc
  obtain ⟨r0, r, hn, hrm, hstR, hsigR⟩ := Cond.declares_spec (hts _ hdecl)
  obtain ⟨cL, kL, r1, hcL, hkL, hiL, hfoundL, hn1⟩ := Cond.interfaceMethod_spec (hts _ hface)
  cases hn.symm.trans hn1
  have hr0cls : r0.cls = cL := Option.some.inj ((findClass_of_methodNamed hn).symm.trans hcL)
  obtain ⟨hnameR, hdescR⟩ := name_of_methodNamed hn hrm
  obtain ⟨mk, methM, hnamed, hmethM, -, habM⟩ := Cond.instanceMethod_spec (hts _ hinst)
  obtain ⟨c2, r2, m2, q1, q2, q3, q4, -⟩ := Cond.selects_spec (hts _ hsel)
  cases hcls.symm.trans q1
  cases hfoundL.symm.trans q2
  cases hnamed.symm.trans q3
  have hselP : selectMethod e.platform s.vm cellB.cls r0 = .method mk := by rw [Launch.admits_selectMethod X.admits]; exact q4
  have hpubM : hasFlag methM.accessFlags Acc.public_ = true := Cond.publicMethod_spec hnamed hmethM (hts _ hpub)
  have hway : ((cellB.cls :: s.vm.superclasses cellB.cls).any fun k => (declaredIn s.vm r.name r.desc k).any fun (_, z) => z.isPrivate || z.isStatic) = false := by
    rw [hnameR, hdescR]; exact Cond.unhidden_spec hcls (hts _ hunh)
  obtain ⟨c3, t3, w1, w2, w3⟩ := Cond.castable_spec (hts _ hcast)
  cases hcls.symm.trans w1
  cases hcL.symm.trans w2
  have hd' : decode c.code pc = .ok (.invokeinterface idx cnt, 5) := by rw [hb]; exact hd.1
  obtain ⟨vm₁, X₁, hstep₁⟩ := X.invokeinterface hx hown (hts _ hlink) hn hrm hstR (by rw [hr0cls]; exact hkL) hiL hmh (a := b) (cell := cellB) (kcell := kB) (by rw [hT]; exact hcell)
    (fun z h => by rw [h] at hobj; cases hobj) hkB (by rw [hr0cls]; exact w3) hselP hmethM hway hpubM habM (g := F0 m pc ls (av.reverse ++ .ref b :: rest)) rfl (argsL := av) (rest := rest) (eg_na hna hsigR) rfl hd'
  exact ⟨vm₁, mk, _, X₁.warmed, X₁, X₁.named hnamed, hd', fun target h => hstep₁ _ fun acts => by rw [doInvoke_state]; exact h⟩
end EGI
