/-! contracts under another cut of the world -/
theorem Ct.cut {l : Launch} {G : eg_G} {y : MethodName} {d mc ms : Nat} {av : List Value} {S S2 : eg_S} {K K2 : eg_O → eg_S → Prop} (h : Ct l G y d mc ms av S K) (hS : S.flatten = S2.flatten) (hK : ∀ o S', K o S' → ∃ S'' : eg_S, S''.flatten = S'.flatten ∧ K2 o S'') : Ct l G y d mc ms av S2 K2 := by
  intro hl p e h1 h2 h3 s m args below h4 h5 h6 h7
  obtain ⟨n, o, q1, q2, q3, q4⟩ := h hl p e h1 h2 h3 s m args below h4 h5 (by unfold eg_Pc at h6 ⊢; rw [hS]; exact h6) trivial
  refine ⟨n, o, q1, q2, q3, ?_⟩
  unfold eg_Qc at q4 ⊢
  rw [hS] at q4
  obtain ⟨⟨oc, S', a, b, c, dd⟩, r⟩ := q4
  obtain ⟨S'', e2, k⟩ := hK oc S' b
  exact ⟨⟨oc, S'', a, k, by rw [e2]; exact c, by rw [e2]; exact dd⟩, r⟩
theorem Ct.cutF {l : Launch} {G : eg_G} {y : MethodName} {d mc ms : Nat} {av : List Value} {S S2 X X2 : eg_S} {v : Option Value} (h : Ct l G y d mc ms av S (rF v X)) (hS : S.flatten = S2.flatten) (hX : X.flatten = X2.flatten) : Ct l G y d mc ms av S2 (rF v X2) :=
  h.cut hS (fun o S' hk => ⟨X2, by rw [hk.2, hX], hk.1, rfl⟩)
