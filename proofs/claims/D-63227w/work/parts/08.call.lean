/-! a call by contract; throwing, leaving by a throw, catching -/
section EGL
theorem eg_Pc.blind {G : eg_G} {av : List Value} {S : eg_S} {a : Array Value} {U : State} {g : JFrame} {mk : MethodId} (h : eg_Pc G av S a U) : eg_Pc G av S a (U.calling g mk a) := by
  obtain ⟨h1, h2, h3, h4⟩ := h
  exact ⟨h1, h2, h3, eg_K.same h4 rfl rfl⟩
theorem eg_land {p : Program} {l : Launch} {e : Env} {R : Room} {s : State} {m : MethodId} {args : Array Value} {below : List Frame} {meth : Method} {c : Code} {U : State} {locs : List Loc} {cells slots : Nat} (X : Stand p l e R s m args below meth c U locs cells slots)
    {G : eg_G} {y : MethodName} {d mc ms : Nat} {av : List Value} {S : eg_S} {K : eg_O → eg_S → Prop} (hM : MetFree l y (headSpec eg_ws (eg_R d mc ms)) (eg_Pc G av S) (fun _ _ _ _ _ => True) (eg_Qc G S K mc ms))
    {μy : eg_M} {nLy : Nat} (hy : cdx y μy nLy) (hts : ∀ w ∈ eg_ws, w.before args s = true) {mk : MethodId} (hn : U.methodNamed? y = some mk) {pc len : Nat} {ls : Array Slot} {rest : List Value} {ig : Instr} (hdg : decode c.code pc = .ok (ig, len)) (hsz : ls.size = c.maxLocals)
    (hfr : d + 1 ≤ R.frames) (hlo : (rest.map fun v => v.category).sum + (nLy + 11) + 100 * d ≤ R.locals) (hcc : cells + mc ≤ R.cells) (hss : slots + ms ≤ R.slots) (hPc : eg_Pc G av S av.toArray U) :
    ∃ (oc : eg_O) (S' : eg_S) (U' : State) (L : List Loc), K oc S' ∧ Stand p l e R s m args below meth c U' (locs ++ L) (cells + mc) (slots + ms) ∧ (∀ q ∈ L, va_A S.flatten U.heap.size q.base) ∧ va_P (eg_D G) classes S'.flatten U'.heap ∧ va_D (va_A S.flatten U.heap.size) S'.flatten ∧ va_F (va_A S.flatten U.heap.size) U U' ∧
      (match oc with
        | .inl v => Steps p.tables e below (doInvoke e (U.setTop (F0 m pc ls rest)) [] mk av.toArray).1 (U'.setTop (F0 m (pc + len) ls (v.toList ++ rest)))
        | .inr E => ∃ x : Nat, eg_Xc E x U' ∧ Steps p.tables e below (doInvoke e (U.setTop (F0 m pc ls rest)) [] mk av.toArray).1 ((U'.setTop (F0 m pc ls rest)).pushFrame (.throwing x))) := by
  have htsU : ∀ w ∈ eg_ws, w.before av.toArray U = true := eg_moved X.warmed hts
  obtain ⟨m9, methY, cY, hn9, hmY, hcY, -, hlY, -⟩ := cdx_spec hy htsU
  cases hn.symm.trans hn9
  obtain ⟨kY, hkY, -⟩ := className_of_methodNamed hn
  have hinitY : kY.init = .initialized := Cond.initialized_spec (findClass_of_methodNamed hn) hkY (htsU _ hy.2.2.2.1)
  have h : At U (F0 m pc ls rest).method c below := X.here
  have happ : (headSpec eg_ws (eg_R d mc ms)).appliesLoose y e.platform (U.calling (F0 m pc ls rest) mk av.toArray) = true :=
    Spec.appliesLoose_calling (g := F0 m pc ls rest) h hdg hn hkY hinitY
      (X.room_calling (g := F0 m pc ls rest) (R' := eg_R d mc ms) hsz hmY hcY hfr (by show 2 * 0 + (rest.map fun v => v.category).sum + _ + 100 * d ≤ _; rw [hlY]; omega) hcc hss) (atoms_intro htsU)
  obtain ⟨mid, hmid⟩ := h.above
  have hfrm : (U.setTop (F0 m pc ls rest)).frames = (.java (F0 m pc ls rest) :: mid) ++ below := by rw [State.frames_setTop' _ h.top, hmid]; rfl
  obtain ⟨o, s₂, hsteps, -, hend, hq⟩ := Steps.callFree hM p X.admits X.cas X.clock (acts := []) hfrm happ (eg_Pc.blind hPc) trivial
  have hq' : eg_Qc G S K mc ms av.toArray (U.calling (F0 m pc ls rest) mk av.toArray) o s₂ := hq
  rw [State.frames_setTop' _ h.top] at hend
  obtain ⟨⟨oc, S', hoc, hK, hP', hD'⟩, hF, L, ⟨hW₂, e2, q2, q3, q4, q5, q6⟩, hL⟩ := hq'
  have e3 : s₂ = ({ (U.calling (F0 m pc ls rest) mk av.toArray).setFrames s₂.frames with heap := s₂.heap, slotsUsed := s₂.slotsUsed } : State).setVm s₂.vm := by
    have : s₂ = ({ s₂ with vm := (U.calling (F0 m pc ls rest) mk av.toArray).vm } : State).setVm s₂.vm := rfl
    rw [e2] at this
    exact this
  have hW' : U.WarmedH s₂.vm := hW₂
  obtain ⟨g₀, hg0⟩ := Option.isSome_iff_exists.mp h.top
  obtain ⟨r, hr⟩ := State.topJava?_eq_some.mp hg0
  have hr' : (({ U with heap := s₂.heap, slotsUsed := s₂.slotsUsed } : State).setVm s₂.vm).frames = .java g₀ :: r := hr
  have hsame : U.sameButNew ({ U with heap := s₂.heap, slotsUsed := s₂.slotsUsed } : State) L mc ms := by
    refine ⟨?_, q2, q3, q4, q5, q6⟩
    obtain ⟨t, ht, -⟩ := State.frames_cons hr
    show ({ U with heap := s₂.heap, slotsUsed := s₂.slotsUsed } : State) = { U.setFrames U.frames with heap := s₂.heap, slotsUsed := s₂.slotsUsed }
    rw [State.setFrames_self ht]
  have X' : Stand p l e R s m args below meth c (({ U with heap := s₂.heap, slotsUsed := s₂.slotsUsed } : State).setVm s₂.vm) (locs ++ L) (cells + mc) (slots + ms) :=
    ⟨X.admits, X.cas, X.clock, X.frames, X.room, X.hears, X.method, X.code, (X.here.setHeapUsed s₂.heap s₂.slotsUsed).setVm hW'.alike, X.tail, State.WarmedH.trans X.warmed hW', X.limits, X.bytes, X.same.trans (hsame.setVm s.vm)⟩
  refine ⟨oc, S', _, L, hK, X', hL, hP', hD', hF, ?_⟩
  cases oc with
  | inl v =>
    have ho : o = .returned v := hoc
    subst ho
    obtain ⟨c₂, i₂, len₂, hc₂, hd₂, hf₂⟩ := hend
    have hcc2 : c₂ = c := by
      have h1 : s₂.code? (F0 m pc ls rest).method = U.code? (F0 m pc ls rest).method := by
        rw [State.code?_eq, State.code?_eq, hW'.alike.method?]
      exact Option.some.inj (hc₂.symm.trans (h1.trans h.code))
    subst hcc2
    have hlen : len₂ = len := by rw [hdg] at hd₂; cases hd₂; rfl
    subst hlen
    have hs₂ : s₂ = (({ U with heap := s₂.heap, slotsUsed := s₂.slotsUsed } : State).setVm s₂.vm).setTop (F0 m (pc + len₂) ls (v.toList ++ rest)) := by
      refine e3.trans ?_
      rw [hf₂, State.calling_eq h.top, State.setFrames_setFrames, State.setTop_of_frames _ hr', hr]
      rfl
    show Steps p.tables e below _ ((({ U with heap := s₂.heap, slotsUsed := s₂.slotsUsed } : State).setVm s₂.vm).setTop (F0 m (pc + len₂) ls (v.toList ++ rest)))
    rw [← hs₂]
    exact hsteps
  | inr E =>
    obtain ⟨x, ho, hx⟩ := hoc
    subst ho
    have hf₂ : s₂.frames = .throwing x :: .java (F0 m pc ls rest) :: U.frames.tail := hend
    have hs₂ : s₂ = ((({ U with heap := s₂.heap, slotsUsed := s₂.slotsUsed } : State).setVm s₂.vm).setTop (F0 m pc ls rest)).pushFrame (.throwing x) := by
      refine e3.trans ?_
      rw [hf₂, State.calling_eq h.top, State.setFrames_setFrames, State.pushFrame, State.frames_setTop _ hr', State.setTop_of_frames _ hr', State.setFrames_setFrames, hr]
      rfl
    refine ⟨x, hx, ?_⟩
    show Steps p.tables e below _ (((({ U with heap := s₂.heap, slotsUsed := s₂.slotsUsed } : State).setVm s₂.vm).setTop (F0 m pc ls rest)).pushFrame (.throwing x))
    rw [← hs₂]
    exact hsteps
end EGL
section EGT
/-- THE JUDGEMENT OF A THROW: at pc an object of the class E is being thrown -/
def ExT (G : eg_G) (Γ : eg_C) (μ : eg_M) (pc : Nat) (lv : List (Option Value)) (E : String) (S : eg_S) (n k : Nat) : Prop := match Γ with
  | (p, l, e, R, s, m, args, below, meth, c, A, Q) => eg_Ok G (p, l, e, R, s, m, args, below, meth, c, A, Q) μ → ∀ (H : Heap) (locs : List Loc) (ls : Array Slot) (rest : List Value) (x cells slots : Nat), cells ≤ n → slots ≤ k → eg_L ls c lv → va_P (eg_D G) classes S.flatten H → va_D A S.flatten → va_S A s.heap H locs → ∀ T : State, T.heap = H → Stand p l e R s m args below meth c T locs cells slots → eg_Xc E x T → ∃ t, Steps p.tables e below ((T.setTop (F0 m pc ls rest)).pushFrame (.throwing x)) t ∧ Q t
variable {l : Launch} {G : eg_G} {Γ : eg_C} {μ μy : eg_M} {pc nx tgt i n k d mc ms d' mc' ms' nLy len : Nat} {lv : List (Option Value)} {st av rest : List Value} {S S1 : eg_S} {y : MethodName} {K1 : eg_O → eg_S → Prop}
theorem ex_call (ks : List Nat) (hR : eg_Rm l Γ d mc ms) (hC : Ct l G y d' mc' ms' av S1 K1) (hI : eg_Inv G Γ μ pc lv st S y av rest len) (hy : cdx y μy nLy) (hS1 : eg_pk S ks = S1) (hks : eg_ks S.length ks = true) (hst : (rest.map fun v => v.category).sum ≤ 8) (hnL : nLy ≤ 60) (hd : d' + 1 ≤ d) (hn : n + mc' ≤ mc) (hk : k + ms' ≤ ms)
    (kr : ∀ (v : Option Value) (S1' : eg_S), K1 (.inl v) S1' → Ex G Γ μ (pc + len) lv (v.toList ++ rest) (eg_bk S ks S1') (n + mc') (k + ms'))
    (kt : ∀ (E : String) (S1' : eg_S), K1 (.inr E) S1' → ExT G Γ μ pc lv E (eg_bk S ks S1') (n + mc') (k + ms')) : Ex G Γ μ pc lv st S n k := by
  obtain ⟨p, l, e, R, s, m, args, below, meth, c, A, Q⟩ := Γ
  intro ok H locs ls cells slots h1 h2 hl hP hD hS T hT X
  obtain ⟨vm₁, mk, ig, hW₁, X₁, hnm, hdg, hgo⟩ := hI ok H ls hl hP T locs cells slots hT X
  obtain ⟨rfl, r1, r2, r3, r4⟩ := hR
  have hsp := eg_split ks S hks
  rw [hS1] at hsp
  have hUh : (T.setVm vm₁).heap = H := hT
  have hF1 : ∀ q, va_A S1.flatten (T.setVm vm₁).heap.size q → A q := by
    intro q hq
    rw [eg_D_iff] at hD
    rcases hq with ⟨k9, e9, hq⟩ | hq
    · exact hD.2 (q, e9) (hsp.mem_iff.mpr (List.mem_append_left _ (List.mem_of_getElem? hq)))
    · rw [hUh] at hq
      exact ok.2.2.2.2.2.2.2.2.1 q (Nat.le_trans hS.1 hq)
  have hPc : eg_Pc G av S1 av.toArray (T.setVm vm₁) := by
    refine ⟨rfl, ?_, ?_, ?_⟩
    · rw [hUh]
      exact eg_sub.P ⟨_, hsp.symm⟩ hP
    · exact (eg_sub.D ⟨_, hsp.symm⟩ hD).weaken (fun _ _ _ _ => trivial)
    · exact ok.2.2.2.2.2.2.2.1.at hW₁.alike hS hUh hF1
  obtain ⟨oc, S', U', L, hK, X', hL, hP', hD', hF, hst'⟩ := eg_land (rest := rest) X₁ (hC ok.2.2.2.2.2.2.2.2.2.2.1) hy ok.2.2.2.1 hnm hdg hl.1 (Nat.le_trans hd r1) (by omega) (by omega) (by omega) hPc
  have hj := eg_join (H1 := U'.heap) hsp hP hD (fun q g1 g2 => by rw [hF.2 q (by rw [hUh]; exact g1) (by rw [hUh]; exact g2), hUh]) (fun q hq => hF1 q (by rw [hUh]; exact hq)) hP' (by rw [hUh] at hD'; exact hD')
  have hbk := (eg_back ks S S' hks)
  have hS' : va_S A s.heap U'.heap (locs ++ L) := by
    refine ⟨Nat.le_trans hS.1 (by have := hF.1; rw [hUh] at this; exact this), fun q g1 g2 => ?_, fun q hq => ?_⟩
    · rw [hF.2 q (by rw [hUh]; exact Nat.lt_of_lt_of_le g1 hS.1) (fun z => g2 (hF1 q z)), hUh]
      exact hS.2.1 q g1 g2
    · rcases List.mem_append.mp hq with h | h
      · exact hS.2.2 q h
      · exact hF1 _ (hL q h)
  have hPb := (eg_sub.perm hbk).P hj.1
  have hDb := (eg_sub.perm hbk).D hj.2
  cases oc with
  | inl v =>
    obtain ⟨t, a1, b1⟩ := kr v S' hK ok U'.heap (locs ++ L) ls (cells + mc') (slots + ms') (by omega) (by omega) hl hPb hDb hS' U' rfl X'
    exact ⟨t, hgo t (hst'.trans a1), b1⟩
  | inr E =>
    obtain ⟨x, hx, hst'⟩ := hst'
    obtain ⟨t, a1, b1⟩ := kt E S' hK ok U'.heap (locs ++ L) ls rest x (cells + mc') (slots + ms') (by omega) (by omega) hl hPb hDb hS' U' rfl X' hx
    exact ⟨t, hgo t (hst'.trans a1), b1⟩
variable {S0 : eg_S} {K : eg_O → eg_S → Prop} {E : String}
/-- no handler covers pc: the method ends by the throw -/
theorem ext_leave (S' : eg_S) (hG : eg_Is l Γ G S0 K d mc ms) (hout : ∀ h ∈ μ.2.2.2.2, (decide (h.1 ≤ pc) && decide (pc < h.2.1)) = false) (hn : n ≤ mc) (hk : k ≤ ms) (hsub : eg_sub S'.flatten S.flatten) (hK : K (.inr E) S') : ExT G Γ μ pc lv E S n k := by
  obtain ⟨p, l, e, R, s, m, args, below, meth, c, A, Q⟩ := Γ
  intro ok H locs ls rest x cells slots h1 h2 hl hP hD hS T hT X hx
  obtain ⟨-, -, rfl, rfl⟩ := hG
  have X2 := stand_widen X (Nat.le_trans h1 hn) (Nat.le_trans h2 hk)
  obtain ⟨hw, hrun, hend, hW, hsame⟩ := X2.leaveThrown x (g := F0 m pc ls rest) rfl rfl rfl (by
    intro z hz
    have := hout (z.startPc, z.endPc, z.handlerPc, z.catchType) (by rw [← ok.2.2.2.2.2.2.2.2.2.2.2.2]; exact List.mem_map.mpr ⟨z, hz, rfl⟩)
    exact this) ok.2.2.2.2.2.1
  refine ⟨_, hw, _, hrun, hend, ⟨.inr E, S', ⟨x, rfl, hx⟩, hK, ?_, hsub.D hD⟩, hS.F hT, locs, ⟨hW, hsame⟩, hS.2.2⟩
  show va_P _ _ _ T.heap
  rw [hT]
  exact hsub.P hP
end EGT
