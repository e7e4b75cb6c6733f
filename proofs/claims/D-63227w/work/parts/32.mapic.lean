/-! THE MACHINE: its cells. M: the bytes (0..255), P: which addresses are guarded, R: the registers -/
def bt (M : Nat → Int32) : Nat → Int32 := fun i => (M i).toInt8.toInt32
def sP (P : Int32 → Bool) : Nat → Int32 := fun i => if i < 4096 then bI (P (nI i)) else 0
def kf (a : Nat → Nat) : Nat → Option Nat := fun i => if i = 55 then some (a 5) else if i = 23 then some (a 6) else if i = 111 then some (a 7) else if i = 103 then some (a 8) else if i = 99 then some (a 9) else if i = 3 then some (a 10) else if i = 35 then some (a 11) else if i = 19 then some (a 12) else if i = 51 then some (a 13) else none
def MAo (a : Nat → Nat) (pc tr md : Int32) : List Value := [.ref (a 1), .ref (a 2), .ref (a 3), .ref (a 4), .int pc, .int tr, .int md]
def MA (G : eg_G) (a : Nat → Nat) (M : Nat → Int32) (P : Int32 → Bool) (R : Nat → Int32) (pc tr md : Int32) : va_W := [(a 0, .inr (1, MAo a pc tr md)), (a 1, .inl (eg_c G 0, 4096, .inl (bt M))), (a 2, .inl (eg_c G 1, 4096, .inl (sP P))), (a 3, .inl (eg_c G 2, 32, .inl R)), (a 4, .inl (eg_c G 4, 128, .inr (.inr (.inr (.inr (kf a)))))), (a 5, .inr (2, [.int (bI false)])), (a 6, .inr (2, [.int (bI true)])), (a 7, .inr (3, [.int (bI false)])), (a 8, .inr (3, [.int (bI true)])), (a 9, .inr (4, [])), (a 10, .inr (5, [])), (a 11, .inr (6, [])), (a 12, .inr (7, [.int (bI true)])), (a 13, .inr (7, [.int (bI false)]))]
theorem bt_and (M : Nat → Int32) (i : Nat) (h : M i &&& 255 = M i) : bt M i &&& 255 = M i := by
  rw [show bt M i &&& 255 = M i &&& 255 from ?_]
  · exact h
  · show (M i).toInt8.toInt32 &&& 255 = M i &&& 255
    generalize M i = x
    apply Int32.toBitVec_inj.mp
    rw [Int32.toBitVec_and, Int32.toBitVec_and]
    ext j hj
    simp [BitVec.getElem_signExtend]
    rcases Nat.lt_or_ge j 8 with z | z
    · simp [z, hj]
    · have e : (255#32)[j] = false := by
        have := (by decide : ∀ j : Fin 32, 8 ≤ j.val → (255#32).getLsbD j.val = false) ⟨j, hj⟩ z
        rwa [BitVec.getLsbD_eq_getElem hj] at this
      rw [e, Bool.and_false, Bool.and_false]
theorem b8_and (v : Int32) : (v &&& 255).toInt8 = v.toInt8 := by
  apply Int8.toBitVec_inj.mp
  show (v &&& 255).toBitVec.signExtend 8 = v.toBitVec.signExtend 8
  rw [Int32.toBitVec_and]
  ext j hj
  have e : (Int32.toBitVec 255)[j]'(by omega) = true := by
    have := (by decide : ∀ j : Fin 8, (Int32.toBitVec 255).getLsbD j.val = true) ⟨j, hj⟩
    rwa [BitVec.getLsbD_eq_getElem (by omega)] at this
  rw [BitVec.getElem_signExtend, BitVec.getElem_signExtend, dif_pos (by omega), dif_pos (by omega), BitVec.getElem_and, e, Bool.and_true]
theorem bt_upd (M : Nat → Int32) (j : Nat) (v : Int32) : upd (bt M) j (vp_nar .byte v.toInt8.toInt32) = bt (upd M j (v &&& 255)) := by
  rw [pk_vb]
  funext i
  show (if i = j then v.toInt8.toInt32 else (M i).toInt8.toInt32) = (if i = j then v &&& 255 else M i).toInt8.toInt32
  by_cases h : i = j
  · rw [if_pos h, if_pos h, b8_and]
  · rw [if_neg h, if_neg h]
section MAP
variable {l : Launch} {G : eg_G} {Γ : eg_C} {μ : eg_M} {pcc nx n k idx : Nat} {lv : List (Option Value)} {rest : List Value} {S : eg_S} {a : Nat → Nat} {M : Nat → Int32} {P : Int32 → Bool} {R : Nat → Int32} {pc tr md x : Int32}
theorem mg (kS : Nat) {j : Nat} {v : Value} (hf : fx μ.1 idx 1 j) (hd : dx μ pcc (.getfield idx) 3 nx) (hk : S[kS]? = some (MA G a M P R pc tr md)) (hv : (MAo a pc tr md)[j]? = some v) (kk : Ex G Γ μ nx lv (v :: rest) S n k) : Ex G Γ μ pcc lv (.ref (a 0) :: rest) S n k := ex_get kS hf hd hk List.mem_cons_self hv kk
theorem mp_at (kS : Nat) (hf : wx μ.1 μ.2.2.2.1 idx 1 4 .int) (hd : dx μ pcc (.putfield idx) 3 nx) (hk : S[kS]? = some (MA G a M P R pc tr md)) (kk : Ex G Γ μ nx lv rest (S.set kS (MA G a M P R x tr md)) n k) : Ex G Γ μ pcc lv (.int x :: .ref (a 0) :: rest) S n k := ex_putp kS 0 hf hd hk rfl rfl rfl (Nat.le_of_ble_eq_true rfl) (ex_eqS _ (by rfl) kk)
theorem mp_trap (kS : Nat) (hf : wx μ.1 μ.2.2.2.1 idx 1 5 .int) (hd : dx μ pcc (.putfield idx) 3 nx) (hk : S[kS]? = some (MA G a M P R pc tr md)) (kk : Ex G Γ μ nx lv rest (S.set kS (MA G a M P R pc x md)) n k) : Ex G Γ μ pcc lv (.int x :: .ref (a 0) :: rest) S n k := ex_putp kS 0 hf hd hk rfl rfl rfl (Nat.le_of_ble_eq_true rfl) (ex_eqS _ (by rfl) kk)
theorem mp_made (kS : Nat) (hf : wx μ.1 μ.2.2.2.1 idx 1 6 .int) (hd : dx μ pcc (.putfield idx) 3 nx) (hk : S[kS]? = some (MA G a M P R pc tr md)) (kk : Ex G Γ μ nx lv rest (S.set kS (MA G a M P R pc tr x)) n k) : Ex G Γ μ pcc lv (.int x :: .ref (a 0) :: rest) S n k := ex_putp kS 0 hf hd hk rfl rfl rfl (Nat.le_of_ble_eq_true rfl) (ex_eqS _ (by rfl) kk)
theorem ml_mem (kS : Nat) {i : Int32} {z : Nat} (hd : dx μ pcc .baload 1 nx) (hk : S[kS]? = some (MA G a M P R pc tr md)) (hi : ix i z 4096) (kk : Ex G Γ μ nx lv (.int (bt M z) :: rest) S n k) : Ex G Γ μ pcc lv (.int i :: .ref (a 1) :: rest) S n k := ex_bald kS hd hk (List.mem_of_getElem? (i := 1) rfl) hi kk
theorem ml_shut (kS : Nat) {i : Int32} {z : Nat} (hd : dx μ pcc .baload 1 nx) (hk : S[kS]? = some (MA G a M P R pc tr md)) (hi : ix i z 4096) (hz : z < 4096) (kk : Ex G Γ μ nx lv (.int (bI (P (nI z))) :: rest) S n k) : Ex G Γ μ pcc lv (.int i :: .ref (a 2) :: rest) S n k := ex_zald kS hd hk (List.mem_of_getElem? (i := 2) rfl) hi (ex_eqT _ (by rw [show sP P z = bI (P (nI z)) from if_pos hz]) kk)
theorem ml_reg (kS : Nat) {i : Int32} {z : Nat} (hd : dx μ pcc .iaload 1 nx) (hk : S[kS]? = some (MA G a M P R pc tr md)) (hi : ix i z 32) (kk : Ex G Γ μ nx lv (.int (R z) :: rest) S n k) : Ex G Γ μ pcc lv (.int i :: .ref (a 3) :: rest) S n k := ex_iald kS hd hk (List.mem_of_getElem? (i := 3) rfl) hi kk
theorem ml_kind (kS : Nat) {i : Int32} {z : Nat} (hd : dx μ pcc .aaload 1 nx) (hk : S[kS]? = some (MA G a M P R pc tr md)) (hi : ix i z 128) (kk : Ex G Γ μ nx lv (va_rf (kf a z) :: rest) S n k) : Ex G Γ μ pcc lv (.int i :: .ref (a 4) :: rest) S n k := ex_ald4 kS hd hk (List.mem_of_getElem? (i := 4) rfl) hi kk
theorem ms_mem (kS : Nat) {i v : Int32} {z : Nat} (hd : dx μ pcc .bastore 1 nx) (hk : S[kS]? = some (MA G a M P R pc tr md)) (hi : ix i z 4096) (kk : Ex G Γ μ nx lv rest (S.set kS (MA G a (upd M z (v &&& 255)) P R pc tr md)) n k) : Ex G Γ μ pcc lv (.int v.toInt8.toInt32 :: .int i :: .ref (a 1) :: rest) S n k := ex_bastp kS 1 hd hk rfl hi (ex_eqS _ (by rw [bt_upd]; rfl) kk)
theorem ms_reg (kS : Nat) {i : Int32} {z : Nat} (hd : dx μ pcc .iastore 1 nx) (hk : S[kS]? = some (MA G a M P R pc tr md)) (hi : ix i z 32) (kk : Ex G Γ μ nx lv rest (S.set kS (MA G a M P (upd R z x) pc tr md)) n k) : Ex G Γ μ pcc lv (.int x :: .int i :: .ref (a 3) :: rest) S n k := ex_iastp kS 3 hd hk rfl hi (ex_eqS _ (by rfl) kk)
theorem ms_shut (kS : Nat) {i : Int32} {z : Nat} {b : Bool} (hd : dx μ pcc .bastore 1 nx) (hk : S[kS]? = some (MA G a M P R pc tr md)) (hi : ix i z 4096) (hz : z < 4096) (kk : Ex G Γ μ nx lv rest (S.set kS (MA G a M (fun y => if y = nI z then b else P y) R pc tr md)) n k) : Ex G Γ μ pcc lv (.int (bI b) :: .int i :: .ref (a 2) :: rest) S n k := ex_zastp kS 2 hd hk rfl hi (ex_eqS _ (by
  rw [bI_v, show upd (sP P) z (bI b) = sP (fun y => if y = nI z then b else P y) from funext fun y => by
    show (if y = z then bI b else sP P y) = (if y < 4096 then bI (if nI y = nI z then b else P (nI y)) else 0)
    by_cases h : y = z
    · rw [if_pos h, h, if_pos hz, if_pos rfl]
    · rw [if_neg h]
      unfold sP
      by_cases h2 : y < 4096
      · rw [if_pos h2, if_pos h2, if_neg (fun e => h ((nI_eq (by omega) (by omega)).mp e))]
      · rw [if_neg h2, if_neg h2]]
  rfl) kk)
end MAP
