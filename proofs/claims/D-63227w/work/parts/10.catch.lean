/-! throwing a new exception, catching one: rules of Ex and ExT -/
section EGY
def eg_hc : List Cond := [.laysStatic x_THR "UNASSIGNED_STACK" eg_ste, .laysStatic x_THR "SUPPRESSED_SENTINEL" eg_lst, .isRef (.static x_THR "UNASSIGNED_STACK" eg_ste), .isRef (.static x_THR "SUPPRESSED_SENTINEL" eg_lst)]
theorem eg_hc_at {G : eg_G} {A : Nat → Prop} {s : State} {args : Array Value} (h : eg_K G A s) : ∀ w ∈ eg_hc, w.before args s = true := by
  obtain ⟨-, -, -, -, -, -, h7, h8⟩ := h
  intro w hw
  simp only [eg_hc, List.mem_cons, List.not_mem_nil, or_false] at hw
  rcases hw with rfl | rfl | rfl | rfl
  · exact h7.lays
  · exact h8.lays
  · exact h7.isRef
  · exact h8.isRef
/-- what the tables must say for 'throw new E()' in the class own -/
def thx (own : String) (ia ic : Nat) (E : String) : Prop := Cond.classLink own ia E ∈ eg_ws ∧ Cond.instantiable E 6 ∈ eg_ws ∧ Cond.initialized E ∈ eg_ws ∧ Bundle.fit E = true ∧ (∀ n ∈ ["java/lang/RuntimeException", "java/lang/Exception"], Bundle.fit n = true) ∧ ∀ a ∈ Bundle.ownAtoms0 own ic E ["java/lang/RuntimeException", "java/lang/Exception"], a ∈ eg_ws ∨ a ∈ eg_hc
variable {l : Launch} {G : eg_G} {Γ : eg_C} {μ : eg_M} {pc nx tgt i n k d mc ms : Nat} {lv : List (Option Value)} {rest : List Value} {S S0 : eg_S} {K : eg_O → eg_S → Prop} {E : String}
theorem ex_thr (S' : eg_S) {ia ic : Nat} (hG : eg_Is l Γ G S0 K d mc ms) (hd0 : decode μ.2.1 pc = .ok (.new ia, 3)) (hd1 : decode μ.2.1 (pc + 3) = .ok (.dup, 1)) (hd2 : decode μ.2.1 (pc + 4) = .ok (.invokespecial ic, 3)) (hd3 : decode μ.2.1 (pc + 7) = .ok (.athrow, 1)) (ht : thx μ.1 ia ic E) (hout : ∀ h ∈ μ.2.2.2.2, (decide (h.1 ≤ pc + 7) && decide (pc + 7 < h.2.1)) = false) (hst : (rest.map fun v => v.category).sum ≤ 8) (hd : 6 ≤ d) (hn : n + 1 ≤ mc) (hk : k + 6 ≤ ms) (hsub : eg_sub S'.flatten S.flatten) (hK : K (.inr E) S') : Ex G Γ μ pc lv rest S n k := by
  obtain ⟨p, l', e, R, s, m, args, below, meth, c, A, Q⟩ := Γ
  intro ok H locs ls cells slots h1 h2 hl hP hD hS
  obtain ⟨-, rfl, rfl, rfl⟩ := hG
  obtain ⟨w1, w2, w3, f1, f2, hin⟩ := ht
  obtain ⟨hx, hb, hown, hts, -, hlocks, -, hKn, hA, hstt, -, htr, hexc⟩ := ok
  refine W.newc hx hb hown (hts _ w1) (hts _ w2) (hts _ w3) rfl hd0 (by show _ + 1 ≤ mc; omega) (by show _ + 6 ≤ ms; omega) fun cX kX hfc hkX _ _ => ?_
  refine lv_dup hx hb hd1 rfl ?_
  intro T hT X
  have X := stand_widen X (show cells + 1 ≤ mc by omega) (show slots + 6 ≤ ms by omega)
  have hcell : T.heap[H.size]? = some (freshCell cX kX) := by rw [hT]; exact Array.getElem?_push_size
  obtain ⟨U, st, hrun, hend, hW, hsame, hsz, hoth, ce, hce, hce1, hce2⟩ := eg_ctor X hx htr hown f1 f2 (fun a ha => by
      rcases hin a ha with z | z
      · exact hts _ z
      · exact eg_hc_at hKn _ z) (fun x hx cell hc => hstt _ (hS.2.2 x hx) cell hc) hfc hkX hcell hS.1 (g := F0 m (pc + 4) ls (.ref H.size :: .ref H.size :: rest)) rfl hl.1 rfl rfl (rest := rest) rfl (by rw [hb]; exact hd2) (by rw [hb]; exact hd3) (by
      intro z hz
      exact hout (z.startPc, z.endPc, z.handlerPc, z.catchType) (by rw [← hexc]; exact List.mem_map.mpr ⟨z, hz, rfl⟩)) (by show 2 + 3 < d; omega) (by
      show 2 * 0 + (1 + (rest.map fun v => v.category).sum) + (13 * (2 + 1) + 41) ≤ 100 * d
      omega) hlocks
  have hold : ∀ q : Nat, q < H.size → U.heap[q]? = H[q]? := fun q hq => by
    rw [hoth q (Nat.ne_of_lt hq), hT, Array.getElem?_push, if_neg (Nat.ne_of_lt hq)]
  refine ⟨U, st, _, hrun, hend, ⟨.inr E, S', ⟨_, rfl, ce, hce, hce1, ?_⟩, hK, ?_, hsub.D hD⟩, ⟨?_, fun q g1 g2 => ?_⟩, locs, ⟨hW, hsame⟩, hS.2.2⟩
  · rw [hW.alike.findClass, hce2]; exact hfc
  · exact (hsub.P hP).kept (fun j q hj => hold q.1 ((hsub.P hP) j q hj).lt)
  · rw [hsz, hT, Array.size_push]; exact Nat.le_trans hS.1 (Nat.le_succ _)
  · rw [hold q (Nat.lt_of_lt_of_le g1 hS.1)]; exact hS.2.1 q g1 g2
/-- one row of a table of handlers whose class is resolved now or was before -/
theorem eg_go_class {EE : CtlPost} {e : Env} {dd : Bool} {acts : List Action} {s : State} {f : JFrame} {a : Addr} {Q : Handler → Pre} {x : ExceptionTableEntry} {t : List ExceptionTableEntry} {c : ClassId} {cell : Cell} {vm' : Vm} (hx : covers x f.pc = true) (h0 : x.catchType ≠ 0)
    (hg : (Jvm.resolveClass f.method.cls x.catchType).Gives e.toSetting s.vm (.ok c) vm') (hsz : vm'.classes.size ≤ s.vm.classes.size) (hcell : s.heap[a]? = some cell) (hobj : ∀ k, cell.vm ≠ .statics k)
    (hk : ∃ k, vm'.classes[cell.cls]? = some k) (hc : ∃ k, vm'.classes[c]? = some k) :
    wp (findHandler.go f a (x :: t)) Q EE e dd acts s ↔ if vm'.assignable cell.cls c = true then Q (.found x.handlerPc) dd acts (s.setVm vm') else wp (findHandler.go f a t) Q EE e dd acts (s.setVm vm') := by
  simp only [covers] at hx
  obtain ⟨ha, ht⟩ := hg.op (op := VmOp.resolveClass f.method.cls x.catchType) rfl
  cases hfit : vm'.assignable cell.cls c <;>
    simp [findHandler.go, hx, h0, ha, ht, hsz, hcell, hobj, hk, hc, hfit, VmOp.dirties, VmOp.acts]
def eg_ncl : List (String × String) := [(x_ISE, x_IOB), (x_ISE, x_IAE)]
/-- the search for a handler of E at pc comes to tgt -/
def eg_find (own E : String) (pc : Nat) : List (Nat × Nat × Nat × Nat) → Nat → Prop
  | [], _ => False
  | (a, b, h, ct) :: t, tgt => (decide (a ≤ pc) && decide (pc < b)) = true ∧ ct ≠ 0 ∧ ((Cond.classLink own ct E ∈ eg_ws ∧ Cond.castable E E ∈ eg_ws ∧ h = tgt) ∨ ∃ C, Cond.classLink own ct C ∈ eg_ws ∧ (E, C) ∈ eg_ncl ∧ eg_find own E pc t tgt)
theorem eg_search {e : Env} {s : State} {args : Array Value} {own E : String} {pc tgt : Nat} {A : Nat → Prop} {f : JFrame} {a : Nat} (hpl : e.platform.magicAccessors = ({} : Platform).magicAccessors) (hown : s.vm.findClass own = some f.method.cls) (hpc : f.pc = pc) (hts : ∀ w ∈ eg_ws, w.before args s = true) (hK : eg_K G A s) : ∀ (tl : List ExceptionTableEntry) (U : State), s.WarmedH U.vm → eg_Xc E a U → eg_find own E pc (tl.map (fun h => (h.startPc, h.endPc, h.handlerPc, h.catchType))) tgt →
    ∃ vm' : Vm, s.WarmedH vm' ∧ ∀ (Q : Handler → Pre) (EE : CtlPost) (dd : Bool) (acts : List Action), wp (findHandler.go f a tl) Q EE e dd acts U ↔ Q (.found tgt) dd acts (U.setVm vm')
  | [], U, hW, hx, h => h.elim
  | x :: tl, U, hW, hx, h => by
    obtain ⟨hcov, hct, h⟩ := h
    have hcov : covers x f.pc = true := by rw [hpc]; exact hcov
    obtain ⟨cell, hcell, hst, hcls⟩ := hx
    have hobj := VmData.ne_statics_of hst
    have hclsS : s.vm.findClass E = some cell.cls := by rw [← hW.alike.findClass]; exact hcls
    rcases h with ⟨w1, w2, htg⟩ | ⟨C, w1, hnc, hrec⟩
    · obtain ⟨cc, hfcc, hcl⟩ := Cond.classLink_spec hown (hts _ w1) e.platform hpl
      cases hclsS.symm.trans hfcc
      obtain ⟨hg₁, hwarm₁, hready₁⟩ := State.classEntry (e := e) hW hcl
      generalize U.vm.noted f.method.cls x.catchType (.cls cell.cls) = vm₁ at hg₁ hwarm₁ hready₁
      have hall : U.vm.Alike vm₁ := hW.alike.symm.trans hwarm₁.alike
      have hcl1 : vm₁.findClass E = some cell.cls := by rw [hwarm₁.alike.findClass]; exact hclsS
      obtain ⟨c3, c4, hc3, hc4, hasg⟩ := Cond.castable_spec (hts _ w2)
      cases Option.some.inj (hc3.symm.trans hclsS)
      cases Option.some.inj (hc4.symm.trans hclsS)
      refine ⟨vm₁, hwarm₁, fun Q EE dd acts => ?_⟩
      rw [eg_go_class hcov hct hg₁ (Vm.Alike.size_le hall) hcell hobj (Vm.classAt_of_findClass hcl1) (Vm.classAt_of_findClass hcl1), if_pos (by rw [hwarm₁.alike.assignable]; exact hasg), htg]
    · have hn : va_Nc E C s := by
        simp only [eg_ncl, List.mem_cons, List.not_mem_nil, or_false, Prod.mk.injEq] at hnc
        rcases hnc with ⟨rfl, rfl⟩ | ⟨rfl, rfl⟩
        · exact hK.2.1
        · exact hK.2.2.1
      obtain ⟨c1, t1, e1, e2, e3⟩ := hn
      cases Option.some.inj (e1.symm.trans hclsS)
      obtain ⟨cc, hfcc, hcl⟩ := Cond.classLink_spec hown (hts _ w1) e.platform hpl
      cases Option.some.inj (hfcc.symm.trans e2)
      obtain ⟨hg₁, hwarm₁, hready₁⟩ := State.classEntry (e := e) hW hcl
      generalize U.vm.noted f.method.cls x.catchType (.cls t1) = vm₁ at hg₁ hwarm₁ hready₁
      have hall : U.vm.Alike vm₁ := hW.alike.symm.trans hwarm₁.alike
      have hcl1 : vm₁.findClass E = some cell.cls := by rw [hwarm₁.alike.findClass]; exact hclsS
      have hcl2 : vm₁.findClass C = some t1 := by rw [hwarm₁.alike.findClass]; exact e2
      obtain ⟨vm', hW', hrest⟩ := eg_search hpl hown hpc hts hK tl (U.setVm vm₁) hwarm₁ ⟨cell, hcell, hst, hcl1⟩ hrec
      refine ⟨vm', hW', fun Q EE dd acts => ?_⟩
      rw [eg_go_class hcov hct hg₁ (Vm.Alike.size_le hall) hcell hobj (Vm.classAt_of_findClass hcl1) (Vm.classAt_of_findClass hcl2), if_neg (by rw [hwarm₁.alike.assignable, e3]; decide)]
      exact hrest Q EE dd acts
/-- the throw at pc is caught in this method, at tgt -/
theorem ext_catch (hf : eg_find μ.1 E pc μ.2.2.2.2 tgt) (kk : ∀ x : Nat, Ex G Γ μ tgt lv [.ref x] S n k) : ExT G Γ μ pc lv E S n k := by
  obtain ⟨p, l', e, R, s, m, args, below, meth, c, A, Q⟩ := Γ
  intro ok H locs ls rest x cells slots h1 h2 hl hP hD hS T hT X hx
  have hok := ok
  obtain ⟨hxe, hb, hown, hts, -, hlocks, -, hKn, hA, hstt, -, htr, hexc⟩ := ok
  have hpl : e.platform.magicAccessors = ({} : Platform).magicAccessors := by rw [X.admits.platform]
  obtain ⟨vm', hW', hs⟩ := eg_search (f := F0 m pc ls rest) (a := x) hpl hown rfl hts hKn c.exceptionTable.toList ((T.setTop (F0 m pc ls rest)).pushFrame (.throwing x)) X.warmed hx (by rw [hexc]; exact hf)
  have X' := X.noted hW'
  obtain ⟨t, a1, b1⟩ := kk x hok H locs ls cells slots h1 h2 hl hP hD hS (T.setVm vm') hT X'
  refine ⟨t, ?_, b1⟩
  obtain ⟨hgo, hw⟩ := X.here.throwing (g := F0 m pc ls rest) x
  refine Steps.head hgo hw ?_
  obtain ⟨g₀, hg⟩ := Option.isSome_iff_exists.mp X.here.top
  obtain ⟨r, hr⟩ := State.topJava?_eq_some.mp hg
  have hfr := frames_entered (s := T) (g := F0 m pc ls rest) X.here.top (.throwing x)
  rw [stepThread_throwing hfr]
  have hIs : (stepThrowing e ((T.setTop (F0 m pc ls rest)).pushFrame (.throwing x)) x (.java (F0 m pc ls rest) :: T.frames.tail)).Is ((((T.setVm vm').setTop (F0 m pc ls rest)).pushFrame (.throwing x)).setFrames (.java (F0 m tgt ls [.ref x]) :: T.frames.tail)) [] := by
    simp only [stepThrowing, searchFrame, vmDo]
    generalize hrr : Sem.go _ e false [] ((T.setTop (F0 m pc ls rest)).pushFrame (.throwing x)) = res
    obtain ⟨as, rfl, ha⟩ := Sem.eq_ok_of hrr (a := Handler.found tgt) (s' := ((T.setVm vm').setTop (F0 m pc ls rest)).pushFrame (.throwing x)) (acts' := []) (by
      have hm' : ((T.setTop (F0 m pc ls rest)).pushFrame (.throwing x)).vm.method? (F0 m pc ls rest).method = some meth := X.method'
      simp only [wp_bind']
      rw [W.findHandler_eq hm' X.code]
      rw [hs]
      simp
      rfl)
    exact ⟨rfl, ha⟩
  rw [hIs.1]
  rw [State.pushFrame, State.setFrames_setFrames, State.setTop_of_frames _ (show (T.setVm vm').frames = .java g₀ :: r from hr), State.setFrames_setFrames]
  rw [State.setTop_of_frames _ (show (T.setVm vm').frames = .java g₀ :: r from hr)] at a1
  rw [hr]
  exact a1
end EGY
