/-! rules for the JDK's: Math.max, Math.min, System.arraycopy, getClass of Object[], the class constant, the empty array's length -/
theorem jw_max1 : Cond.static Lib.Math.max.name ∈ eg_ws := by decide +kernel
theorem jw_min1 : Cond.static Lib.Math.min.name ∈ eg_ws := by decide +kernel
theorem jw_mi : Cond.initialized "java/lang/Math" ∈ eg_ws := by decide +kernel
theorem jw_max2 : Cond.code Lib.Math.max.name Lib.Math.max.code 2 (some .int) ∈ eg_ws := by decide +kernel
theorem jw_min2 : Cond.code Lib.Math.min.name Lib.Math.min.code 2 (some .int) ∈ eg_ws := by decide +kernel
theorem jw_ac1 : Cond.native arraycopyName ∈ eg_ws := by decide +kernel
theorem jw_ac2 : Cond.static arraycopyName ∈ eg_ws := by decide +kernel
theorem jw_ac3 : Cond.initialized "java/lang/System" ∈ eg_ws := by decide +kernel
abbrev gcN : MethodName := ⟨"java/lang/Object", "getClass", "()Ljava/lang/Class;"⟩
theorem jw_gc1 : Cond.declares gcN ∈ eg_ws := by decide +kernel
theorem jw_gc2 : Cond.selects "[Ljava/lang/Object;" gcN gcN ∈ eg_ws := by decide +kernel
theorem jw_gc3 : Cond.instanceMethod gcN ∈ eg_ws := by decide +kernel
theorem jw_gc4 : Cond.native gcN ∈ eg_ws := by decide +kernel
section EGJ
variable {l : Launch} {G : eg_G} {Γ : eg_C} {μ : eg_M} {pc nx n k d mc ms idx : Nat} {lv : List (Option Value)} {rest : List Value} {S : eg_S} {x y : Int32}
theorem ex_mmax (hR : eg_Rm l Γ (d + 1) mc ms) (hd : dx μ pc (.invokestatic idx) 3 nx) (w1 : Cond.methodLink μ.1 idx Lib.Math.max.name ∈ eg_ws) (hst : (rest.map fun v => v.category).sum ≤ 8) (hn : n ≤ mc) (hk : k ≤ ms) (kk : Ex G Γ μ nx lv (.int (if x < y then y else x) :: rest) S n k) : Ex G Γ μ pc lv (.int y :: .int x :: rest) S n k := by
  obtain ⟨p, l, e, R, s, m, args, below, meth, c, A, Q⟩ := Γ
  intro ok H locs ls cells slots h1 h2 hl hP hD hS
  obtain ⟨hd, rfl⟩ := hd
  obtain ⟨-, r0, r1, r2, r3⟩ := hR
  have K := kk ok H locs ls cells slots h1 h2 hl hP hD hS
  obtain ⟨hx, hb, hown, hts, -⟩ := ok
  exact va_mmax hx hb hl.1.symm hown (hts _ w1) (hts _ jw_max1) (hts _ jw_mi) (hts _ jw_max2) (by omega) (by omega) (by omega) (by omega) hd K
theorem ex_mmin (hR : eg_Rm l Γ (d + 1) mc ms) (hd : dx μ pc (.invokestatic idx) 3 nx) (w1 : Cond.methodLink μ.1 idx Lib.Math.min.name ∈ eg_ws) (hst : (rest.map fun v => v.category).sum ≤ 8) (hn : n ≤ mc) (hk : k ≤ ms) (kk : Ex G Γ μ nx lv (.int (if y < x then y else x) :: rest) S n k) : Ex G Γ μ pc lv (.int y :: .int x :: rest) S n k := by
  obtain ⟨p, l, e, R, s, m, args, below, meth, c, A, Q⟩ := Γ
  intro ok H locs ls cells slots h1 h2 hl hP hD hS
  obtain ⟨hd, rfl⟩ := hd
  obtain ⟨-, r0, r1, r2, r3⟩ := hR
  have K := kk ok H locs ls cells slots h1 h2 hl hP hD hS
  obtain ⟨hx, hb, hown, hts, -⟩ := ok
  exact va_mmin hx hb hl.1.symm hown (hts _ w1) (hts _ jw_min1) (hts _ jw_mi) (hts _ jw_min2) (by omega) (by omega) (by omega) (by omega) hd K
/-- the length of ArrayList's empty array -/
theorem ex_tlen (hd : dx μ pc .arraylength 1 nx) (kk : Ex G Γ μ nx lv (.int (nI 0) :: rest) S n k) : Ex G Γ μ pc lv (.ref G.2.2.2.1 :: rest) S n k := by
  obtain ⟨p, l, e, R, s, m, args, below, meth, c, A, Q⟩ := Γ
  intro ok H locs ls cells slots h1 h2 hl hP hD hS
  obtain ⟨hd, rfl⟩ := hd
  have K := kk ok H locs ls cells slots h1 h2 hl hP hD hS
  obtain ⟨hx, hb, hown, hts, -, -, -, hK, -⟩ := ok
  exact va_tlen hx hb hK.2.2.2.2.1 hS rfl hd K
theorem ex_ldcM {C : String} (hd : dx μ pc (.ldc idx) 2 nx) (hC : C = "[Ljava/lang/Object;") (w1 : Cond.classLink μ.1 idx C ∈ eg_ws) (kk : Ex G Γ μ nx lv (.ref G.2.2.2.2 :: rest) S n k) : Ex G Γ μ pc lv rest S n k := by
  obtain ⟨p, l, e, R, s, m, args, below, meth, c, A, Q⟩ := Γ
  intro ok H locs ls cells slots h1 h2 hl hP hD hS
  obtain ⟨hd, rfl⟩ := hd
  subst hC
  have K := kk ok H locs ls cells slots h1 h2 hl hP hD hS
  obtain ⟨hx, hb, hown, hts, -, -, -, hK, -⟩ := ok
  exact va_ldcM hx hb hown (hts _ w1) hK.2.2.2.2.2.1 hd K
theorem ex_getC (kS : Nat) {P : va_W} {a N : Nat} {f : Nat → Option Nat} (hR : eg_Rm l Γ (d + 1) mc ms) (hd : dx μ pc (.invokevirtual idx) 3 nx) (w1 : Cond.methodLink μ.1 idx gcN ∈ eg_ws) (hk : S[kS]? = some P) (hm : (a, .inl (eg_c G 7, N, .inr (.inr (.inr (.inr f))))) ∈ P) (hst : (rest.map fun v => v.category).sum ≤ 8) (kk : Ex G Γ μ nx lv (.ref G.2.2.2.2 :: rest) S n k) : Ex G Γ μ pc lv (.ref a :: rest) S n k := by
  obtain ⟨p, l, e, R, s, m, args, below, meth, c, A, Q⟩ := Γ
  intro ok H locs ls cells slots h1 h2 hl hP hD hS
  obtain ⟨hd, rfl⟩ := hd
  obtain ⟨-, r0, r1, r2, r3⟩ := hR
  obtain ⟨z, hz⟩ := eg_mem hk hm
  have K := kk ok H locs ls cells slots h1 h2 hl hP hD hS
  obtain ⟨hx, hb, hown, hts, -, -, -, hK, -⟩ := ok
  have hc : H[a]? = some (vp_cell (eg_c G 7) (N, .inr (.inr (.inr (.inr f))))) := hP z _ hz
  have hnm : s.vm.findClass "[Ljava/lang/Object;" = some (eg_c G 7) := va_nmO (hK.1.2 7 _ rfl).2 (by decide)
  exact va_getC hx hb hl.1.symm hown (hts _ w1) (hts _ jw_gc1) (hts _ jw_gc2) (hts _ jw_gc3) (hts _ jw_gc4) hK.2.2.2.2.2.1 ⟨_, hc, rfl, hnm⟩ (by omega) (by omega) hd K
theorem ex_copy7 (kA kB kV : Nat) {PA PV : va_W} {a0 a1 n0 n1 ci N sp dp c : Nat} {f g : Nat → Option Nat} {C : String} {T : u_T} (hR : eg_Rm l Γ (d + 1) mc ms) (hd : dx μ pc (.invokestatic idx) 3 nx) (w1 : Cond.methodLink μ.1 idx arraycopyName ∈ eg_ws) (hkA : S[kA]? = some PA) (hmA : (a0, .inl (eg_c G 7, n0, .inr (.inr (.inr (.inr f))))) ∈ PA) (hkB : S[kB]? = some [(a1, .inl (eg_c G 7, n1, .inr (.inr (.inr (.inr g)))))]) (hkV : S[kV]? = some PV)
    (hel : ∀ i, i < c → ∀ y, f (sp + i) = some y → ∃ fs, (y, .inr (ci, fs)) ∈ PV) (hc : classes[ci]? = some (C, T, N)) (hca : Cond.castable C "java/lang/Object" ∈ eg_ws) (h4 : sp + c ≤ n0) (h5 : dp + c ≤ n1) (h0 : n0 < 2 ^ 31) (h1 : n1 < 2 ^ 31) (hst : (rest.map fun v => v.category).sum ≤ 8)
    (kk : Ex G Γ μ nx lv rest (S.set kB [(a1, .inl (eg_c G 7, n1, .inr (.inr (.inr (.inr (va_cpy f g sp dp c))))))]) n k) : Ex G Γ μ pc lv (.int (nI c) :: .int (nI dp) :: .ref a1 :: .int (nI sp) :: .ref a0 :: rest) S n k := by
  obtain ⟨p, l, e, R, s, m, args, below, meth, cd, A, Q⟩ := Γ
  intro ok H locs ls cells slots z1 z2 hl hP hD hS
  obtain ⟨hd, rfl⟩ := hd
  obtain ⟨-, r0, r1, r2, r3⟩ := hR
  obtain ⟨zA, hzA⟩ := eg_mem hkA hmA
  obtain ⟨zB, hzB, hset⟩ := eg_pos S kB 0 _ _ hkB rfl
  have K := fun H1 locs1 q1 q2 q3 => kk ok H1 locs1 ls cells slots z1 z2 hl q1 q2 q3
  obtain ⟨hx, hb, hown, hts, -, -, -, hK, -⟩ := ok
  refine va_copyq (C := C) hx hb hl.1.symm hown (hts _ w1) (hts _ jw_ac1) (hts _ jw_ac2) (hts _ jw_ac3) hK.1 hP hD hS zA zB 7 7 hzA hzB rfl rfl (nI_pos (by omega)) (nI_pos (by omega)) (nI_pos (by omega)) (by rw [nI_clamp (by omega), nI_clamp (by omega)]; exact h4) (by rw [nI_clamp (by omega), nI_clamp (by omega)]; exact h5) (fun i hi y hy => ?_) (fun comp c0 f2 f1 => ?_) (by omega) (by show _ + (nativeFrameWords "java/lang/System" "arraycopy" 5 + 11) ≤ _; have hw : nativeFrameWords "java/lang/System" "arraycopy" 5 ≤ 20 := (by decide); omega) hd (fun H1 locs1 q1 q2 q3 => ?_)
  · rw [nI_clamp (by omega)] at hi
    rw [nI_clamp (by omega)] at hy
    obtain ⟨fs, hm⟩ := hel i hi y hy
    obtain ⟨zV, hzV⟩ := eg_mem hkV hm
    obtain ⟨r', hr', cellV, g1, g2, g3, -⟩ := hP zV _ hzV
    have hcls := (hK.1.1 ci _ hc).2
    exact ⟨cellV, g1, by rw [g3]; rfl, by rw [g2]; exact hcls.1⟩
  · obtain ⟨c0', t1, e1, e2, e3⟩ := Cond.castable_spec (hts _ hca)
    cases f1.symm.trans e1
    cases f2.symm.trans e2
    exact e3
  · rw [nI_clamp (by omega), nI_clamp (by omega), nI_clamp (by omega)] at q1 q2
    rw [hset] at q1 q2
    exact K H1 locs1 q1 q2 q3
end EGJ
