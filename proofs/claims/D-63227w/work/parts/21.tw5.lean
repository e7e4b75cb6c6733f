/-! THE TWIN, 5: step, run -/
theorem txo_103 (P : Int32 → Bool) (M R : Nat → Int32) (pc w : Int32) : txo 103 P M R pc w = (if wK w = 0 then (0, M, upd R (wRd w) (pc + 4), (wX R w + wI w) &&& -2) else (3, M, R, pc)) := rfl
theorem txo_99 (P : Int32 → Bool) (M R : Nat → Int32) (pc w : Int32) : txo 99 P M R pc w = (if wK w = 2 ∨ wK w = 3 then (3, M, R, pc) else (0, M, R, if soB (wK w) (wX R w) (wY R w) = true then pc + wB w else pc + 4)) := by
  unfold txo
  rw [if_neg (by decide), if_neg (by decide), if_neg (by decide), if_neg (by decide), if_pos rfl]
theorem txo_3 (P : Int32 → Bool) (M R : Nat → Int32) (pc w : Int32) : txo 3 P M R pc w = (ftT (wK w) (wX R w + wI w), M, (if ftT (wK w) (wX R w + wI w) = 0 then upd R (wRd w) (ftV M (wK w) (wX R w + wI w)) else R), (if ftT (wK w) (wX R w + wI w) = 0 then pc + 4 else pc)) := by
  unfold txo
  rw [if_neg (by decide), if_neg (by decide), if_neg (by decide), if_neg (by decide), if_neg (by decide), if_pos rfl]
theorem txo_35 (P : Int32 → Bool) (M R : Nat → Int32) (pc w : Int32) : txo 35 P M R pc w = (stT P (wK w) (wX R w + wS w), (if stT P (wK w) (wX R w + wS w) = 0 then putB M (wX R w + wS w).toNatClampNeg (wY R w) (stN (wK w)) else M), R, (if stT P (wK w) (wX R w + wS w) = 0 then pc + 4 else pc)) := by
  unfold txo
  rw [if_neg (by decide), if_neg (by decide), if_neg (by decide), if_neg (by decide), if_neg (by decide), if_neg (by decide), if_pos rfl]
theorem txo_19 (P : Int32 → Bool) (M R : Nat → Int32) (pc w : Int32) : txo 19 P M R pc w = (if (wK w = 1 ∧ ¬ wT w = 0) ∨ (wK w = 5 ∧ ¬ wT w = 0 ∧ ¬ wT w = 32) then (3, M, R, pc) else (0, M, upd R (wRd w) (rkI (wK w) (wX R w) (if wK w = 1 ∨ wK w = 5 then r5 w 20 else wI w) (decide (wK w = 5 ∧ wT w = 32))), pc + 4)) := by
  unfold txo
  rw [if_neg (by decide), if_neg (by decide), if_neg (by decide), if_neg (by decide), if_neg (by decide), if_neg (by decide), if_neg (by decide), if_pos rfl]
theorem txo_51 (P : Int32 → Bool) (M R : Nat → Int32) (pc w : Int32) : txo 51 P M R pc w = (if ¬ wT w = 0 ∧ (¬ wT w = 32 ∨ (¬ wK w = 0 ∧ ¬ wK w = 5)) then (3, M, R, pc) else (0, M, upd R (wRd w) (if wK w = 0 ∧ wT w = 32 then wX R w - wY R w else rkI (wK w) (wX R w) (wY R w) (decide (wT w = 32))), pc + 4)) := by
  unfold txo
  rw [if_neg (by decide), if_neg (by decide), if_neg (by decide), if_neg (by decide), if_neg (by decide), if_neg (by decide), if_neg (by decide), if_neg (by decide), if_pos rfl]
theorem txo_d {op : Int32} (P : Int32 → Bool) (M R : Nat → Int32) (pc w : Int32) (h1 : ¬ op = 55) (h2 : ¬ op = 23) (h3 : ¬ op = 111) (h4 : ¬ op = 103) (h5 : ¬ op = 99) (h6 : ¬ op = 3) (h7 : ¬ op = 35) (h8 : ¬ op = 19) (h9 : ¬ op = 51) : txo op P M R pc w = (3, M, R, pc) := by
  unfold txo
  rw [if_neg h1, if_neg h2, if_neg h3, if_neg h4, if_neg h5, if_neg h6, if_neg h7, if_neg h8, if_neg h9]
theorem ftT_ge (k a : Int32) : 0 ≤ ftT k a := by unfold ftT; split; decide; exact acI_ge _ _
theorem stT_ge (P : Int32 → Bool) (k a : Int32) : 0 ≤ stT P k a := by unfold stT; split; decide; split; exact acI_ge _ _; split <;> decide
theorem i_cast {x : Int32} (h : x ≤ 0) (h' : 0 ≤ x) : x = 0 := Int32.le_antisymm h h'
set_option maxRecDepth 100000 in
set_option maxHeartbeats 4000000 in
theorem c_TM_step (l : Launch) (G : eg_G) (h : Nat) (q : Nat → Nat) (f : Nat → Int32) (g : Nat → Nat → Int32) (hse : f 2 = 0 ∨ f 2 = 1) : Ct l G y_TM_step 3 0 0 [.ref h] [TW G h q f g] (rF (some (.int (tstep (gdB f g) (g 1) (g 22) (f 30)).1)) [TW G h q (va_up f 30 (tstep (gdB f g) (g 1) (g 22) (f 30)).2.2.2) (gMR g (tstep (gdB f g) (g 1) (g 22) (f 30)).2.1 (tstep (gdB f g) (g 1) (g 22) (f 30)).2.2.1)]) := by
  refine Ct.of cd_TM_step (eg_catb rfl) (Nat.le_of_ble_eq_true rfl) ?_
  intro Γ hG
  have hR := hG.rm
  show Ex G Γ mu_TM_step 0 [some (.ref h), none, none, none, none, none, none, none, none, none] [] [TW G h q f g] 0 0
  have KT : ∀ t, tstep (gdB f g) (g 1) (g 22) (f 30) = (t, g 1, g 22, f 30) → (rF (some (.int (tstep (gdB f g) (g 1) (g 22) (f 30)).1)) [TW G h q (va_up f 30 (tstep (gdB f g) (g 1) (g 22) (f 30)).2.2.2) (gMR g (tstep (gdB f g) (g 1) (g 22) (f 30)).2.1 (tstep (gdB f g) (g 1) (g 22) (f 30)).2.2.1)]) (.inl (some (.int t))) [TW G h q f g] := fun t ht => ⟨by rw [ht], by rw [ht]; show _ = [TW G h q (va_up f 30 (f 30)) (gMR g (g 1) (g 22))]; rw [va_up_same, gMR_same]⟩
  have J : ∀ (nx : Int32) (M R : Nat → Int32) (g' : Nat → Nat → Int32), g' = gMR g M R → tstep (gdB f g) (g 1) (g 22) (f 30) = (0, M, R, nx) → Ex G Γ mu_TM_step 605 [some (.ref h), none, none, none, none, none, none, some (.int nx), none, none] [] [TW G h q f g'] 0 0 := by
    intro nx M R g' hg' ht
    refine ex_al d_TM_step_605 rfl ?_
    refine ex_il d_TM_step_606 rfl ?_
    refine tp_30 0 wl_TM_191 d_TM_step_608 rfl ?_
    refine ex_k d_TM_step_611 ?_
    exact ex_iret [TW G h q (va_up f 30 nx) g'] hG d_TM_step_612 rfl rfl (by decide) (by decide) (eg_sub.of rfl) ⟨by rw [ht], by rw [ht, hg']⟩
  refine ex_al d_TM_step_0 rfl ?_
  refine tg 0 fl_TM_191 d_TM_step_1 rfl rfl ?_
  refine ex_k d_TM_step_4 ?_
  refine ex_irem d_TM_step_5 (by decide) ?_
  refine ex_if_eq d_TM_step_6 (fun h6 => ?_) (fun h6 => ?_)
  · skip
    have h6 : f 30 - f 30 / 4 * 4 = 0 := h6
    refine ex_al d_TM_step_11 rfl ?_
    refine tg 0 fl_TM_191 d_TM_step_12 rfl rfl ?_
    refine ex_if_lt d_TM_step_15 (fun h15 => ?_) (fun h15 => ?_)
    · skip
      have hin : f 30 < 0 ∨ 4096 ≤ f 30 := Or.inl h15
      refine ex_k d_TM_step_28 ?_
      exact ex_iret [TW G h q f g] hG d_TM_step_29 rfl rfl (by decide) (by decide) (eg_sub.of rfl) (KT _ (by rw [tstep, if_neg (fun z => z h6), if_pos hin]))
    · skip
      refine ex_al d_TM_step_18 rfl ?_
      refine tg 0 fl_TM_191 d_TM_step_19 rfl rfl ?_
      refine ex_k d_TM_step_22 ?_
      refine ex_icmp_lt d_TM_step_25 (fun h25 => ?_) (fun h25 => ?_)
      · skip
        have hin : ¬ (f 30 < 0 ∨ 4096 ≤ f 30) := by rintro (z | z); exact h15 z; exact absurd h25 (Int32.not_lt.mpr z)
        obtain ⟨j, hj, hpc, hj4⟩ := isWd_of (a := f 30) (E := 4096) (by decide) (by simp only [isWd, Bool.and_eq_true, decide_eq_true_eq]; exact ⟨⟨Int32.not_lt.mp h15, h25⟩, h6⟩)
        have hts : tstep (gdB f g) (g 1) (g 22) (f 30) = txo (wdA (g 1) j &&& 127) (gdB f g) (g 1) (g 22) (f 30) (wdA (g 1) j) := by rw [tstep, if_neg (fun z => z h6), if_neg hin, hpc, nI_clamp (by omega)]
        refine ex_al d_TM_step_30 rfl ?_
        refine ex_al d_TM_step_31 rfl ?_
        refine tg 0 fl_TM_191 d_TM_step_32 rfl rfl ?_
        refine ex_eqT [.int (nI j), .ref h] (by rw [← hpc]) ?_
        refine ex_cF [0] hR (c_TM_wordAt l G h q f g j (by omega)) (eg_invV 0 d_TM_step_35 cd_TM_wordAt cx_TM_76 rfl rfl List.mem_cons_self rfl rfl) cd_TM_wordAt rfl rfl (Nat.le_of_ble_eq_true rfl) (by decide) (by decide) (by decide) (by decide) rfl ?_
        generalize wdA (g 1) j = w at hts ⊢
        refine ex_is d_TM_step_38 (Nat.le_of_ble_eq_true rfl) ?_
        refine ex_il d_TM_step_39 rfl ?_
        refine ex_k d_TM_step_40 ?_
        refine ex_k d_TM_step_42 ?_
        refine ex_cP hR (c_TM_bitsN l G _ _ _ 31 (by decide)) (eg_invS d_TM_step_43 cd_TM_bits cx_TM_198 rfl rfl) cd_TM_bits (Nat.le_of_ble_eq_true rfl) (by decide) (by decide) (by decide) (by decide) rfl ?_
        refine ex_is d_TM_step_46 (Nat.le_of_ble_eq_true rfl) ?_
        refine ex_al d_TM_step_47 rfl ?_
        refine tg 0 fl_TM_54 d_TM_step_48 rfl rfl ?_
        refine ex_il d_TM_step_51 rfl ?_
        refine ex_k d_TM_step_52 ?_
        refine ex_k d_TM_step_54 ?_
        refine ex_cP hR (c_TM_bitsN l G _ _ _ 31 (by decide)) (eg_invS d_TM_step_55 cd_TM_bits cx_TM_198 rfl rfl) cd_TM_bits (Nat.le_of_ble_eq_true rfl) (by decide) (by decide) (by decide) (by decide) rfl ?_
        refine tl_22 0 d_TM_step_58 rfl (r5_ix w 15) ?_
        refine ex_is d_TM_step_59 (Nat.le_of_ble_eq_true rfl) ?_
        refine ex_al d_TM_step_60 rfl ?_
        refine tg 0 fl_TM_54 d_TM_step_61 rfl rfl ?_
        refine ex_il d_TM_step_64 rfl ?_
        refine ex_k d_TM_step_65 ?_
        refine ex_k d_TM_step_67 ?_
        refine ex_cP hR (c_TM_bitsN l G _ _ _ 31 (by decide)) (eg_invS d_TM_step_68 cd_TM_bits cx_TM_198 rfl rfl) cd_TM_bits (Nat.le_of_ble_eq_true rfl) (by decide) (by decide) (by decide) (by decide) rfl ?_
        refine tl_22 0 d_TM_step_71 rfl (r5_ix w 20) ?_
        refine ex_is d_TM_step_72 (Nat.le_of_ble_eq_true rfl) ?_
        refine ex_il d_TM_step_74 rfl ?_
        refine ex_k d_TM_step_75 ?_
        refine ex_k d_TM_step_77 ?_
        refine ex_cP hR (c_TM_bitsN l G _ _ _ 7 (by decide)) (eg_invS d_TM_step_78 cd_TM_bits cx_TM_198 rfl rfl) cd_TM_bits (Nat.le_of_ble_eq_true rfl) (by decide) (by decide) (by decide) (by decide) rfl ?_
        refine ex_is d_TM_step_81 (Nat.le_of_ble_eq_true rfl) ?_
        refine ex_il d_TM_step_83 rfl ?_
        refine ex_k d_TM_step_84 ?_
        refine ex_ishr d_TM_step_86 ?_
        refine ex_is d_TM_step_87 (Nat.le_of_ble_eq_true rfl) ?_
        refine ex_al d_TM_step_89 rfl ?_
        refine tg 0 fl_TM_191 d_TM_step_90 rfl rfl ?_
        refine ex_k d_TM_step_93 ?_
        refine ex_iadd d_TM_step_94 ?_
        refine ex_is d_TM_step_95 (Nat.le_of_ble_eq_true rfl) ?_
        refine ex_eqL [some (.ref h), some (.int w), some (.int (r5 w 7)), some (.int (wX (g 22) w)), some (.int (wY (g 22) w)), some (.int (wK w)), some (.int (wI w)), some (.int (f 30 + 4)), none, none] rfl ?_
        refine ex_eqS [TW G h q f g] rfl ?_
        refine ex_il d_TM_step_97 rfl ?_
        refine ex_k d_TM_step_98 ?_
        refine ex_iand d_TM_step_100 ?_
        by_cases e101_3 : w &&& 127 = 3
        · skip
          refine ex_eqT (.int 3 :: _) (by rw [e101_3]) ?_
          refine ex_look (tgt := 377) (o := 276) d_TM_step_101 (by decide) (by decide) (by decide) ?_
          obtain ⟨kk, hkk, hk⟩ := wK_lt w
          refine ex_al d_TM_step_377 rfl ?_
          refine ex_il d_TM_step_378 rfl ?_
          refine ex_il d_TM_step_380 rfl ?_
          refine ex_il d_TM_step_381 rfl ?_
          refine ex_iadd d_TM_step_383 ?_
          refine ex_il d_TM_step_384 rfl ?_
          refine ex_eqT [.int (r5 w 7), .int (wX (g 22) w + wI w), .int (nI kk), .ref h] (by rw [← hk]) ?_
          refine ex_cF [0] hR (c_TM_fetch l G h q f g kk hkk (wX (g 22) w + wI w) (r5 w 7) _ (r5_ix w 7)) (eg_invV 0 d_TM_step_385 cd_TM_fetch cx_TM_206 rfl rfl List.mem_cons_self rfl rfl) cd_TM_fetch rfl rfl (Nat.le_of_ble_eq_true rfl) (by decide) (by decide) (by decide) (by decide) rfl ?_
          refine ex_eqT [.int (ftT (wK w) (wX (g 22) w + wI w))] (by rw [hk]) ?_
          refine ex_is d_TM_step_388 (Nat.le_of_ble_eq_true rfl) ?_
          refine ex_il d_TM_step_390 rfl ?_
          refine ex_if_le d_TM_step_392 (fun h392 => ?_) (fun h392 => ?_)
          · skip
            have h392 : ftT (wK w) (wX (g 22) w + wI w) = 0 := i_cast h392 (ftT_ge _ _)
            refine ex_forget [true, false, false, false, false, false, false, true, false, false] ?_
            exact J _ (g 1) (upd (g 22) (wRd w) (ftV (g 1) (wK w) (wX (g 22) w + wI w))) _ (by rw [gMR_R, ← hk, if_pos h392]; rfl) (by rw [hts, e101_3, txo_3, h392, if_pos rfl, if_pos rfl])
          · skip
            have h392 : ¬ ftT (wK w) (wX (g 22) w + wI w) = 0 := fun z => h392 (by rw [z]; decide)
            refine ex_eqS [TW G h q f g] (by show [TW G h q f _] = _; rw [← hk, if_neg h392]) ?_
            refine ex_il d_TM_step_395 rfl ?_
            exact ex_iret [TW G h q f g] hG d_TM_step_397 rfl rfl (by decide) (by decide) (eg_sub.of rfl) (KT _ (by rw [hts, e101_3, txo_3, if_neg h392, if_neg h392]))
        by_cases e101_19 : w &&& 127 = 19
        · skip
          refine ex_eqT (.int 19 :: _) (by rw [e101_19]) ?_
          refine ex_look (tgt := 426) (o := 325) d_TM_step_101 (by decide) (by decide) (by decide) ?_
          have T19 : (wK w = 1 ∧ ¬ wT w = 0) ∨ (wK w = 5 ∧ ¬ wT w = 0 ∧ ¬ wT w = 32) → (rF (some (.int (tstep (gdB f g) (g 1) (g 22) (f 30)).1)) [TW G h q (va_up f 30 (tstep (gdB f g) (g 1) (g 22) (f 30)).2.2.2) (gMR g (tstep (gdB f g) (g 1) (g 22) (f 30)).2.1 (tstep (gdB f g) (g 1) (g 22) (f 30)).2.2.1)]) (.inl (some (.int 3))) [TW G h q f g] := fun hc => KT 3 (by rw [hts, e101_19, txo_19, if_pos hc])
          refine ex_il d_TM_step_426 rfl ?_
          refine ex_k d_TM_step_428 ?_
          refine ex_icmp_ne d_TM_step_429 (fun h429 => ?_) (fun h429 => ?_)
          · skip
            have h429 : ¬ wK w = 1 := h429
            refine ex_il d_TM_step_439 rfl ?_
            refine ex_k d_TM_step_441 ?_
            refine ex_icmp_ne d_TM_step_442 (fun h442 => ?_) (fun h442 => ?_)
            · skip
              have h442 : ¬ wK w = 5 := h442
              have hc19 : ¬ ((wK w = 1 ∧ ¬ wT w = 0) ∨ (wK w = 5 ∧ ¬ wT w = 0 ∧ ¬ wT w = 32)) := by clear J KT T19 hts hG hR; grind
              have J5 : ∀ z : Int32, z = (if wK w = 1 ∨ wK w = 5 then r5 w 20 else wI w) → Ex G Γ mu_TM_step 495 [some (.ref h), some (.int w), some (.int (r5 w 7)), some (.int (wX (g 22) w)), some (.int (wY (g 22) w)), some (.int (wK w)), some (.int (wI w)), some (.int (f 30 + 4)), none, none] [.int z, .int (wX (g 22) w), .int (wK w), .int (r5 w 7), .ref (q 22)] [TW G h q f g] 0 0 := by
                intro z hz
                subst hz
                have J6 : ∀ z : Int32, z = bI (decide (wK w = 5 ∧ wT w = 32)) → Ex G Γ mu_TM_step 515 [some (.ref h), some (.int w), some (.int (r5 w 7)), some (.int (wX (g 22) w)), some (.int (wY (g 22) w)), some (.int (wK w)), some (.int (wI w)), some (.int (f 30 + 4)), none, none] [.int z, .int (if wK w = 1 ∨ wK w = 5 then r5 w 20 else wI w), .int (wX (g 22) w), .int (wK w), .int (r5 w 7), .ref (q 22)] [TW G h q f g] 0 0 := by
                  intro z hz
                  subst hz
                  refine ex_cP hR (c_TM_reckon l G _ _ _ _) (eg_invS d_TM_step_515 cd_TM_reckon cx_TM_212 rfl rfl) cd_TM_reckon (Nat.le_of_ble_eq_true rfl) (by decide) (by decide) (by decide) (by decide) rfl ?_
                  refine ts_22 0 d_TM_step_518 rfl (r5_ix w 7) ?_
                  refine ex_goto d_TM_step_519 ?_
                  refine ex_forget [true, false, false, false, false, false, false, true, false, false] ?_
                  exact J _ (g 1) _ _ (gMR_R g _).symm (by rw [hts, e101_19, txo_19, if_neg hc19]; rfl)
                refine ex_il d_TM_step_495 rfl ?_
                refine ex_k d_TM_step_497 ?_
                refine ex_icmp_ne d_TM_step_498 (fun h498 => ?_) (fun h498 => ?_)
                · skip
                  have h498 : ¬ wK w = 5 := h498
                  refine ex_k d_TM_step_514 ?_
                  exact J6 _ (by clear J J6 KT T19 hts hG hR hc19; grind [bI])
                · skip
                  have h498 : wK w = 5 := h498
                  refine ex_il d_TM_step_501 rfl ?_
                  refine ex_k d_TM_step_502 ?_
                  refine ex_iushr d_TM_step_504 ?_
                  refine ex_k d_TM_step_505 ?_
                  refine ex_icmp_ne d_TM_step_507 (fun h507 => ?_) (fun h507 => ?_)
                  · skip
                    have h507 : ¬ wT w = 32 := h507
                    refine ex_k d_TM_step_514 ?_
                    exact J6 _ (by clear J J6 KT T19 hts hG hR hc19; grind [bI])
                  · skip
                    have h507 : wT w = 32 := h507
                    refine ex_k d_TM_step_510 ?_
                    refine ex_goto d_TM_step_511 ?_
                    exact J6 _ (by clear J J6 KT T19 hts hG hR hc19; grind [bI])
              refine ex_al d_TM_step_463 rfl ?_
              refine tg 0 fl_TM_54 d_TM_step_464 rfl rfl ?_
              refine ex_il d_TM_step_467 rfl ?_
              refine ex_il d_TM_step_468 rfl ?_
              refine ex_il d_TM_step_470 rfl ?_
              refine ex_il d_TM_step_471 rfl ?_
              refine ex_k d_TM_step_473 ?_
              refine ex_icmp_eq d_TM_step_474 (fun h474 => ?_) (fun h474 => ?_)
              · skip
                have h474 : wK w = 1 := h474
                refine ex_il d_TM_step_483 rfl ?_
                refine ex_k d_TM_step_484 ?_
                refine ex_k d_TM_step_486 ?_
                refine ex_cP hR (c_TM_bitsN l G _ _ _ 31 (by decide)) (eg_invS d_TM_step_487 cd_TM_bits cx_TM_198 rfl rfl) cd_TM_bits (Nat.le_of_ble_eq_true rfl) (by decide) (by decide) (by decide) (by decide) rfl ?_
                refine ex_goto d_TM_step_490 ?_
                exact J5 _ (by rw [if_pos (Or.inl h474)]; rfl)
              · skip
                have h474 : ¬ wK w = 1 := h474
                refine ex_il d_TM_step_477 rfl ?_
                refine ex_k d_TM_step_479 ?_
                refine ex_icmp_ne d_TM_step_480 (fun h480 => ?_) (fun h480 => ?_)
                · skip
                  have h480 : ¬ wK w = 5 := h480
                  refine ex_il d_TM_step_493 rfl ?_
                  exact J5 _ (by rw [if_neg (by rintro (z | z); exact h474 z; exact h480 z)])
                · skip
                  have h480 : wK w = 5 := h480
                  refine ex_il d_TM_step_483 rfl ?_
                  refine ex_k d_TM_step_484 ?_
                  refine ex_k d_TM_step_486 ?_
                  refine ex_cP hR (c_TM_bitsN l G _ _ _ 31 (by decide)) (eg_invS d_TM_step_487 cd_TM_bits cx_TM_198 rfl rfl) cd_TM_bits (Nat.le_of_ble_eq_true rfl) (by decide) (by decide) (by decide) (by decide) rfl ?_
                  refine ex_goto d_TM_step_490 ?_
                  exact J5 _ (by rw [if_pos (Or.inr h480)]; rfl)
            · skip
              have h442 : wK w = 5 := h442
              refine ex_il d_TM_step_445 rfl ?_
              refine ex_k d_TM_step_446 ?_
              refine ex_iushr d_TM_step_448 ?_
              refine ex_if_eq d_TM_step_449 (fun h449 => ?_) (fun h449 => ?_)
              · skip
                have h449 : wT w = 0 := h449
                have hc19 : ¬ ((wK w = 1 ∧ ¬ wT w = 0) ∨ (wK w = 5 ∧ ¬ wT w = 0 ∧ ¬ wT w = 32)) := by clear J KT T19 hts hG hR; grind
                have J5 : ∀ z : Int32, z = (if wK w = 1 ∨ wK w = 5 then r5 w 20 else wI w) → Ex G Γ mu_TM_step 495 [some (.ref h), some (.int w), some (.int (r5 w 7)), some (.int (wX (g 22) w)), some (.int (wY (g 22) w)), some (.int (wK w)), some (.int (wI w)), some (.int (f 30 + 4)), none, none] [.int z, .int (wX (g 22) w), .int (wK w), .int (r5 w 7), .ref (q 22)] [TW G h q f g] 0 0 := by
                  intro z hz
                  subst hz
                  have J6 : ∀ z : Int32, z = bI (decide (wK w = 5 ∧ wT w = 32)) → Ex G Γ mu_TM_step 515 [some (.ref h), some (.int w), some (.int (r5 w 7)), some (.int (wX (g 22) w)), some (.int (wY (g 22) w)), some (.int (wK w)), some (.int (wI w)), some (.int (f 30 + 4)), none, none] [.int z, .int (if wK w = 1 ∨ wK w = 5 then r5 w 20 else wI w), .int (wX (g 22) w), .int (wK w), .int (r5 w 7), .ref (q 22)] [TW G h q f g] 0 0 := by
                    intro z hz
                    subst hz
                    refine ex_cP hR (c_TM_reckon l G _ _ _ _) (eg_invS d_TM_step_515 cd_TM_reckon cx_TM_212 rfl rfl) cd_TM_reckon (Nat.le_of_ble_eq_true rfl) (by decide) (by decide) (by decide) (by decide) rfl ?_
                    refine ts_22 0 d_TM_step_518 rfl (r5_ix w 7) ?_
                    refine ex_goto d_TM_step_519 ?_
                    refine ex_forget [true, false, false, false, false, false, false, true, false, false] ?_
                    exact J _ (g 1) _ _ (gMR_R g _).symm (by rw [hts, e101_19, txo_19, if_neg hc19]; rfl)
                  refine ex_il d_TM_step_495 rfl ?_
                  refine ex_k d_TM_step_497 ?_
                  refine ex_icmp_ne d_TM_step_498 (fun h498 => ?_) (fun h498 => ?_)
                  · skip
                    have h498 : ¬ wK w = 5 := h498
                    refine ex_k d_TM_step_514 ?_
                    exact J6 _ (by clear J J6 KT T19 hts hG hR hc19; grind [bI])
                  · skip
                    have h498 : wK w = 5 := h498
                    refine ex_il d_TM_step_501 rfl ?_
                    refine ex_k d_TM_step_502 ?_
                    refine ex_iushr d_TM_step_504 ?_
                    refine ex_k d_TM_step_505 ?_
                    refine ex_icmp_ne d_TM_step_507 (fun h507 => ?_) (fun h507 => ?_)
                    · skip
                      have h507 : ¬ wT w = 32 := h507
                      refine ex_k d_TM_step_514 ?_
                      exact J6 _ (by clear J J6 KT T19 hts hG hR hc19; grind [bI])
                    · skip
                      have h507 : wT w = 32 := h507
                      refine ex_k d_TM_step_510 ?_
                      refine ex_goto d_TM_step_511 ?_
                      exact J6 _ (by clear J J6 KT T19 hts hG hR hc19; grind [bI])
                refine ex_al d_TM_step_463 rfl ?_
                refine tg 0 fl_TM_54 d_TM_step_464 rfl rfl ?_
                refine ex_il d_TM_step_467 rfl ?_
                refine ex_il d_TM_step_468 rfl ?_
                refine ex_il d_TM_step_470 rfl ?_
                refine ex_il d_TM_step_471 rfl ?_
                refine ex_k d_TM_step_473 ?_
                refine ex_icmp_eq d_TM_step_474 (fun h474 => ?_) (fun h474 => ?_)
                · skip
                  have h474 : wK w = 1 := h474
                  refine ex_il d_TM_step_483 rfl ?_
                  refine ex_k d_TM_step_484 ?_
                  refine ex_k d_TM_step_486 ?_
                  refine ex_cP hR (c_TM_bitsN l G _ _ _ 31 (by decide)) (eg_invS d_TM_step_487 cd_TM_bits cx_TM_198 rfl rfl) cd_TM_bits (Nat.le_of_ble_eq_true rfl) (by decide) (by decide) (by decide) (by decide) rfl ?_
                  refine ex_goto d_TM_step_490 ?_
                  exact J5 _ (by rw [if_pos (Or.inl h474)]; rfl)
                · skip
                  have h474 : ¬ wK w = 1 := h474
                  refine ex_il d_TM_step_477 rfl ?_
                  refine ex_k d_TM_step_479 ?_
                  refine ex_icmp_ne d_TM_step_480 (fun h480 => ?_) (fun h480 => ?_)
                  · skip
                    have h480 : ¬ wK w = 5 := h480
                    refine ex_il d_TM_step_493 rfl ?_
                    exact J5 _ (by rw [if_neg (by rintro (z | z); exact h474 z; exact h480 z)])
                  · skip
                    have h480 : wK w = 5 := h480
                    refine ex_il d_TM_step_483 rfl ?_
                    refine ex_k d_TM_step_484 ?_
                    refine ex_k d_TM_step_486 ?_
                    refine ex_cP hR (c_TM_bitsN l G _ _ _ 31 (by decide)) (eg_invS d_TM_step_487 cd_TM_bits cx_TM_198 rfl rfl) cd_TM_bits (Nat.le_of_ble_eq_true rfl) (by decide) (by decide) (by decide) (by decide) rfl ?_
                    refine ex_goto d_TM_step_490 ?_
                    exact J5 _ (by rw [if_pos (Or.inr h480)]; rfl)
              · skip
                have h449 : ¬ wT w = 0 := h449
                refine ex_il d_TM_step_452 rfl ?_
                refine ex_k d_TM_step_453 ?_
                refine ex_iushr d_TM_step_455 ?_
                refine ex_k d_TM_step_456 ?_
                refine ex_icmp_eq d_TM_step_458 (fun h458 => ?_) (fun h458 => ?_)
                · skip
                  have h458 : wT w = 32 := h458
                  have hc19 : ¬ ((wK w = 1 ∧ ¬ wT w = 0) ∨ (wK w = 5 ∧ ¬ wT w = 0 ∧ ¬ wT w = 32)) := by clear J KT T19 hts hG hR; grind
                  have J5 : ∀ z : Int32, z = (if wK w = 1 ∨ wK w = 5 then r5 w 20 else wI w) → Ex G Γ mu_TM_step 495 [some (.ref h), some (.int w), some (.int (r5 w 7)), some (.int (wX (g 22) w)), some (.int (wY (g 22) w)), some (.int (wK w)), some (.int (wI w)), some (.int (f 30 + 4)), none, none] [.int z, .int (wX (g 22) w), .int (wK w), .int (r5 w 7), .ref (q 22)] [TW G h q f g] 0 0 := by
                    intro z hz
                    subst hz
                    have J6 : ∀ z : Int32, z = bI (decide (wK w = 5 ∧ wT w = 32)) → Ex G Γ mu_TM_step 515 [some (.ref h), some (.int w), some (.int (r5 w 7)), some (.int (wX (g 22) w)), some (.int (wY (g 22) w)), some (.int (wK w)), some (.int (wI w)), some (.int (f 30 + 4)), none, none] [.int z, .int (if wK w = 1 ∨ wK w = 5 then r5 w 20 else wI w), .int (wX (g 22) w), .int (wK w), .int (r5 w 7), .ref (q 22)] [TW G h q f g] 0 0 := by
                      intro z hz
                      subst hz
                      refine ex_cP hR (c_TM_reckon l G _ _ _ _) (eg_invS d_TM_step_515 cd_TM_reckon cx_TM_212 rfl rfl) cd_TM_reckon (Nat.le_of_ble_eq_true rfl) (by decide) (by decide) (by decide) (by decide) rfl ?_
                      refine ts_22 0 d_TM_step_518 rfl (r5_ix w 7) ?_
                      refine ex_goto d_TM_step_519 ?_
                      refine ex_forget [true, false, false, false, false, false, false, true, false, false] ?_
                      exact J _ (g 1) _ _ (gMR_R g _).symm (by rw [hts, e101_19, txo_19, if_neg hc19]; rfl)
                    refine ex_il d_TM_step_495 rfl ?_
                    refine ex_k d_TM_step_497 ?_
                    refine ex_icmp_ne d_TM_step_498 (fun h498 => ?_) (fun h498 => ?_)
                    · skip
                      have h498 : ¬ wK w = 5 := h498
                      refine ex_k d_TM_step_514 ?_
                      exact J6 _ (by clear J J6 KT T19 hts hG hR hc19; grind [bI])
                    · skip
                      have h498 : wK w = 5 := h498
                      refine ex_il d_TM_step_501 rfl ?_
                      refine ex_k d_TM_step_502 ?_
                      refine ex_iushr d_TM_step_504 ?_
                      refine ex_k d_TM_step_505 ?_
                      refine ex_icmp_ne d_TM_step_507 (fun h507 => ?_) (fun h507 => ?_)
                      · skip
                        have h507 : ¬ wT w = 32 := h507
                        refine ex_k d_TM_step_514 ?_
                        exact J6 _ (by clear J J6 KT T19 hts hG hR hc19; grind [bI])
                      · skip
                        have h507 : wT w = 32 := h507
                        refine ex_k d_TM_step_510 ?_
                        refine ex_goto d_TM_step_511 ?_
                        exact J6 _ (by clear J J6 KT T19 hts hG hR hc19; grind [bI])
                  refine ex_al d_TM_step_463 rfl ?_
                  refine tg 0 fl_TM_54 d_TM_step_464 rfl rfl ?_
                  refine ex_il d_TM_step_467 rfl ?_
                  refine ex_il d_TM_step_468 rfl ?_
                  refine ex_il d_TM_step_470 rfl ?_
                  refine ex_il d_TM_step_471 rfl ?_
                  refine ex_k d_TM_step_473 ?_
                  refine ex_icmp_eq d_TM_step_474 (fun h474 => ?_) (fun h474 => ?_)
                  · skip
                    have h474 : wK w = 1 := h474
                    refine ex_il d_TM_step_483 rfl ?_
                    refine ex_k d_TM_step_484 ?_
                    refine ex_k d_TM_step_486 ?_
                    refine ex_cP hR (c_TM_bitsN l G _ _ _ 31 (by decide)) (eg_invS d_TM_step_487 cd_TM_bits cx_TM_198 rfl rfl) cd_TM_bits (Nat.le_of_ble_eq_true rfl) (by decide) (by decide) (by decide) (by decide) rfl ?_
                    refine ex_goto d_TM_step_490 ?_
                    exact J5 _ (by rw [if_pos (Or.inl h474)]; rfl)
                  · skip
                    have h474 : ¬ wK w = 1 := h474
                    refine ex_il d_TM_step_477 rfl ?_
                    refine ex_k d_TM_step_479 ?_
                    refine ex_icmp_ne d_TM_step_480 (fun h480 => ?_) (fun h480 => ?_)
                    · skip
                      have h480 : ¬ wK w = 5 := h480
                      refine ex_il d_TM_step_493 rfl ?_
                      exact J5 _ (by rw [if_neg (by rintro (z | z); exact h474 z; exact h480 z)])
                    · skip
                      have h480 : wK w = 5 := h480
                      refine ex_il d_TM_step_483 rfl ?_
                      refine ex_k d_TM_step_484 ?_
                      refine ex_k d_TM_step_486 ?_
                      refine ex_cP hR (c_TM_bitsN l G _ _ _ 31 (by decide)) (eg_invS d_TM_step_487 cd_TM_bits cx_TM_198 rfl rfl) cd_TM_bits (Nat.le_of_ble_eq_true rfl) (by decide) (by decide) (by decide) (by decide) rfl ?_
                      refine ex_goto d_TM_step_490 ?_
                      exact J5 _ (by rw [if_pos (Or.inr h480)]; rfl)
                · skip
                  have h458 : ¬ wT w = 32 := h458
                  refine ex_k d_TM_step_461 ?_
                  exact ex_iret [TW G h q f g] hG d_TM_step_462 rfl rfl (by decide) (by decide) (eg_sub.of rfl) (T19 (Or.inr ⟨h442, h449, h458⟩))
          · skip
            have h429 : wK w = 1 := h429
            refine ex_il d_TM_step_432 rfl ?_
            refine ex_k d_TM_step_433 ?_
            refine ex_iushr d_TM_step_435 ?_
            refine ex_if_ne d_TM_step_436 (fun h436 => ?_) (fun h436 => ?_)
            · skip
              have h436 : ¬ wT w = 0 := h436
              refine ex_k d_TM_step_461 ?_
              exact ex_iret [TW G h q f g] hG d_TM_step_462 rfl rfl (by decide) (by decide) (eg_sub.of rfl) (T19 (Or.inl ⟨h429, h436⟩))
            · skip
              have h436 : wT w = 0 := h436
              refine ex_il d_TM_step_439 rfl ?_
              refine ex_k d_TM_step_441 ?_
              refine ex_icmp_ne d_TM_step_442 (fun h442 => ?_) (fun h442 => ?_)
              · skip
                have h442 : ¬ wK w = 5 := h442
                have hc19 : ¬ ((wK w = 1 ∧ ¬ wT w = 0) ∨ (wK w = 5 ∧ ¬ wT w = 0 ∧ ¬ wT w = 32)) := by clear J KT T19 hts hG hR; grind
                have J5 : ∀ z : Int32, z = (if wK w = 1 ∨ wK w = 5 then r5 w 20 else wI w) → Ex G Γ mu_TM_step 495 [some (.ref h), some (.int w), some (.int (r5 w 7)), some (.int (wX (g 22) w)), some (.int (wY (g 22) w)), some (.int (wK w)), some (.int (wI w)), some (.int (f 30 + 4)), none, none] [.int z, .int (wX (g 22) w), .int (wK w), .int (r5 w 7), .ref (q 22)] [TW G h q f g] 0 0 := by
                  intro z hz
                  subst hz
                  have J6 : ∀ z : Int32, z = bI (decide (wK w = 5 ∧ wT w = 32)) → Ex G Γ mu_TM_step 515 [some (.ref h), some (.int w), some (.int (r5 w 7)), some (.int (wX (g 22) w)), some (.int (wY (g 22) w)), some (.int (wK w)), some (.int (wI w)), some (.int (f 30 + 4)), none, none] [.int z, .int (if wK w = 1 ∨ wK w = 5 then r5 w 20 else wI w), .int (wX (g 22) w), .int (wK w), .int (r5 w 7), .ref (q 22)] [TW G h q f g] 0 0 := by
                    intro z hz
                    subst hz
                    refine ex_cP hR (c_TM_reckon l G _ _ _ _) (eg_invS d_TM_step_515 cd_TM_reckon cx_TM_212 rfl rfl) cd_TM_reckon (Nat.le_of_ble_eq_true rfl) (by decide) (by decide) (by decide) (by decide) rfl ?_
                    refine ts_22 0 d_TM_step_518 rfl (r5_ix w 7) ?_
                    refine ex_goto d_TM_step_519 ?_
                    refine ex_forget [true, false, false, false, false, false, false, true, false, false] ?_
                    exact J _ (g 1) _ _ (gMR_R g _).symm (by rw [hts, e101_19, txo_19, if_neg hc19]; rfl)
                  refine ex_il d_TM_step_495 rfl ?_
                  refine ex_k d_TM_step_497 ?_
                  refine ex_icmp_ne d_TM_step_498 (fun h498 => ?_) (fun h498 => ?_)
                  · skip
                    have h498 : ¬ wK w = 5 := h498
                    refine ex_k d_TM_step_514 ?_
                    exact J6 _ (by clear J J6 KT T19 hts hG hR hc19; grind [bI])
                  · skip
                    have h498 : wK w = 5 := h498
                    refine ex_il d_TM_step_501 rfl ?_
                    refine ex_k d_TM_step_502 ?_
                    refine ex_iushr d_TM_step_504 ?_
                    refine ex_k d_TM_step_505 ?_
                    refine ex_icmp_ne d_TM_step_507 (fun h507 => ?_) (fun h507 => ?_)
                    · skip
                      have h507 : ¬ wT w = 32 := h507
                      refine ex_k d_TM_step_514 ?_
                      exact J6 _ (by clear J J6 KT T19 hts hG hR hc19; grind [bI])
                    · skip
                      have h507 : wT w = 32 := h507
                      refine ex_k d_TM_step_510 ?_
                      refine ex_goto d_TM_step_511 ?_
                      exact J6 _ (by clear J J6 KT T19 hts hG hR hc19; grind [bI])
                refine ex_al d_TM_step_463 rfl ?_
                refine tg 0 fl_TM_54 d_TM_step_464 rfl rfl ?_
                refine ex_il d_TM_step_467 rfl ?_
                refine ex_il d_TM_step_468 rfl ?_
                refine ex_il d_TM_step_470 rfl ?_
                refine ex_il d_TM_step_471 rfl ?_
                refine ex_k d_TM_step_473 ?_
                refine ex_icmp_eq d_TM_step_474 (fun h474 => ?_) (fun h474 => ?_)
                · skip
                  have h474 : wK w = 1 := h474
                  refine ex_il d_TM_step_483 rfl ?_
                  refine ex_k d_TM_step_484 ?_
                  refine ex_k d_TM_step_486 ?_
                  refine ex_cP hR (c_TM_bitsN l G _ _ _ 31 (by decide)) (eg_invS d_TM_step_487 cd_TM_bits cx_TM_198 rfl rfl) cd_TM_bits (Nat.le_of_ble_eq_true rfl) (by decide) (by decide) (by decide) (by decide) rfl ?_
                  refine ex_goto d_TM_step_490 ?_
                  exact J5 _ (by rw [if_pos (Or.inl h474)]; rfl)
                · skip
                  have h474 : ¬ wK w = 1 := h474
                  refine ex_il d_TM_step_477 rfl ?_
                  refine ex_k d_TM_step_479 ?_
                  refine ex_icmp_ne d_TM_step_480 (fun h480 => ?_) (fun h480 => ?_)
                  · skip
                    have h480 : ¬ wK w = 5 := h480
                    refine ex_il d_TM_step_493 rfl ?_
                    exact J5 _ (by rw [if_neg (by rintro (z | z); exact h474 z; exact h480 z)])
                  · skip
                    have h480 : wK w = 5 := h480
                    refine ex_il d_TM_step_483 rfl ?_
                    refine ex_k d_TM_step_484 ?_
                    refine ex_k d_TM_step_486 ?_
                    refine ex_cP hR (c_TM_bitsN l G _ _ _ 31 (by decide)) (eg_invS d_TM_step_487 cd_TM_bits cx_TM_198 rfl rfl) cd_TM_bits (Nat.le_of_ble_eq_true rfl) (by decide) (by decide) (by decide) (by decide) rfl ?_
                    refine ex_goto d_TM_step_490 ?_
                    exact J5 _ (by rw [if_pos (Or.inr h480)]; rfl)
              · skip
                have h442 : wK w = 5 := h442
                refine ex_il d_TM_step_445 rfl ?_
                refine ex_k d_TM_step_446 ?_
                refine ex_iushr d_TM_step_448 ?_
                refine ex_if_eq d_TM_step_449 (fun h449 => ?_) (fun h449 => ?_)
                · skip
                  have h449 : wT w = 0 := h449
                  have hc19 : ¬ ((wK w = 1 ∧ ¬ wT w = 0) ∨ (wK w = 5 ∧ ¬ wT w = 0 ∧ ¬ wT w = 32)) := by clear J KT T19 hts hG hR; grind
                  have J5 : ∀ z : Int32, z = (if wK w = 1 ∨ wK w = 5 then r5 w 20 else wI w) → Ex G Γ mu_TM_step 495 [some (.ref h), some (.int w), some (.int (r5 w 7)), some (.int (wX (g 22) w)), some (.int (wY (g 22) w)), some (.int (wK w)), some (.int (wI w)), some (.int (f 30 + 4)), none, none] [.int z, .int (wX (g 22) w), .int (wK w), .int (r5 w 7), .ref (q 22)] [TW G h q f g] 0 0 := by
                    intro z hz
                    subst hz
                    have J6 : ∀ z : Int32, z = bI (decide (wK w = 5 ∧ wT w = 32)) → Ex G Γ mu_TM_step 515 [some (.ref h), some (.int w), some (.int (r5 w 7)), some (.int (wX (g 22) w)), some (.int (wY (g 22) w)), some (.int (wK w)), some (.int (wI w)), some (.int (f 30 + 4)), none, none] [.int z, .int (if wK w = 1 ∨ wK w = 5 then r5 w 20 else wI w), .int (wX (g 22) w), .int (wK w), .int (r5 w 7), .ref (q 22)] [TW G h q f g] 0 0 := by
                      intro z hz
                      subst hz
                      refine ex_cP hR (c_TM_reckon l G _ _ _ _) (eg_invS d_TM_step_515 cd_TM_reckon cx_TM_212 rfl rfl) cd_TM_reckon (Nat.le_of_ble_eq_true rfl) (by decide) (by decide) (by decide) (by decide) rfl ?_
                      refine ts_22 0 d_TM_step_518 rfl (r5_ix w 7) ?_
                      refine ex_goto d_TM_step_519 ?_
                      refine ex_forget [true, false, false, false, false, false, false, true, false, false] ?_
                      exact J _ (g 1) _ _ (gMR_R g _).symm (by rw [hts, e101_19, txo_19, if_neg hc19]; rfl)
                    refine ex_il d_TM_step_495 rfl ?_
                    refine ex_k d_TM_step_497 ?_
                    refine ex_icmp_ne d_TM_step_498 (fun h498 => ?_) (fun h498 => ?_)
                    · skip
                      have h498 : ¬ wK w = 5 := h498
                      refine ex_k d_TM_step_514 ?_
                      exact J6 _ (by clear J J6 KT T19 hts hG hR hc19; grind [bI])
                    · skip
                      have h498 : wK w = 5 := h498
                      refine ex_il d_TM_step_501 rfl ?_
                      refine ex_k d_TM_step_502 ?_
                      refine ex_iushr d_TM_step_504 ?_
                      refine ex_k d_TM_step_505 ?_
                      refine ex_icmp_ne d_TM_step_507 (fun h507 => ?_) (fun h507 => ?_)
                      · skip
                        have h507 : ¬ wT w = 32 := h507
                        refine ex_k d_TM_step_514 ?_
                        exact J6 _ (by clear J J6 KT T19 hts hG hR hc19; grind [bI])
                      · skip
                        have h507 : wT w = 32 := h507
                        refine ex_k d_TM_step_510 ?_
                        refine ex_goto d_TM_step_511 ?_
                        exact J6 _ (by clear J J6 KT T19 hts hG hR hc19; grind [bI])
                  refine ex_al d_TM_step_463 rfl ?_
                  refine tg 0 fl_TM_54 d_TM_step_464 rfl rfl ?_
                  refine ex_il d_TM_step_467 rfl ?_
                  refine ex_il d_TM_step_468 rfl ?_
                  refine ex_il d_TM_step_470 rfl ?_
                  refine ex_il d_TM_step_471 rfl ?_
                  refine ex_k d_TM_step_473 ?_
                  refine ex_icmp_eq d_TM_step_474 (fun h474 => ?_) (fun h474 => ?_)
                  · skip
                    have h474 : wK w = 1 := h474
                    refine ex_il d_TM_step_483 rfl ?_
                    refine ex_k d_TM_step_484 ?_
                    refine ex_k d_TM_step_486 ?_
                    refine ex_cP hR (c_TM_bitsN l G _ _ _ 31 (by decide)) (eg_invS d_TM_step_487 cd_TM_bits cx_TM_198 rfl rfl) cd_TM_bits (Nat.le_of_ble_eq_true rfl) (by decide) (by decide) (by decide) (by decide) rfl ?_
                    refine ex_goto d_TM_step_490 ?_
                    exact J5 _ (by rw [if_pos (Or.inl h474)]; rfl)
                  · skip
                    have h474 : ¬ wK w = 1 := h474
                    refine ex_il d_TM_step_477 rfl ?_
                    refine ex_k d_TM_step_479 ?_
                    refine ex_icmp_ne d_TM_step_480 (fun h480 => ?_) (fun h480 => ?_)
                    · skip
                      have h480 : ¬ wK w = 5 := h480
                      refine ex_il d_TM_step_493 rfl ?_
                      exact J5 _ (by rw [if_neg (by rintro (z | z); exact h474 z; exact h480 z)])
                    · skip
                      have h480 : wK w = 5 := h480
                      refine ex_il d_TM_step_483 rfl ?_
                      refine ex_k d_TM_step_484 ?_
                      refine ex_k d_TM_step_486 ?_
                      refine ex_cP hR (c_TM_bitsN l G _ _ _ 31 (by decide)) (eg_invS d_TM_step_487 cd_TM_bits cx_TM_198 rfl rfl) cd_TM_bits (Nat.le_of_ble_eq_true rfl) (by decide) (by decide) (by decide) (by decide) rfl ?_
                      refine ex_goto d_TM_step_490 ?_
                      exact J5 _ (by rw [if_pos (Or.inr h480)]; rfl)
                · skip
                  have h449 : ¬ wT w = 0 := h449
                  refine ex_il d_TM_step_452 rfl ?_
                  refine ex_k d_TM_step_453 ?_
                  refine ex_iushr d_TM_step_455 ?_
                  refine ex_k d_TM_step_456 ?_
                  refine ex_icmp_eq d_TM_step_458 (fun h458 => ?_) (fun h458 => ?_)
                  · skip
                    have h458 : wT w = 32 := h458
                    have hc19 : ¬ ((wK w = 1 ∧ ¬ wT w = 0) ∨ (wK w = 5 ∧ ¬ wT w = 0 ∧ ¬ wT w = 32)) := by clear J KT T19 hts hG hR; grind
                    have J5 : ∀ z : Int32, z = (if wK w = 1 ∨ wK w = 5 then r5 w 20 else wI w) → Ex G Γ mu_TM_step 495 [some (.ref h), some (.int w), some (.int (r5 w 7)), some (.int (wX (g 22) w)), some (.int (wY (g 22) w)), some (.int (wK w)), some (.int (wI w)), some (.int (f 30 + 4)), none, none] [.int z, .int (wX (g 22) w), .int (wK w), .int (r5 w 7), .ref (q 22)] [TW G h q f g] 0 0 := by
                      intro z hz
                      subst hz
                      have J6 : ∀ z : Int32, z = bI (decide (wK w = 5 ∧ wT w = 32)) → Ex G Γ mu_TM_step 515 [some (.ref h), some (.int w), some (.int (r5 w 7)), some (.int (wX (g 22) w)), some (.int (wY (g 22) w)), some (.int (wK w)), some (.int (wI w)), some (.int (f 30 + 4)), none, none] [.int z, .int (if wK w = 1 ∨ wK w = 5 then r5 w 20 else wI w), .int (wX (g 22) w), .int (wK w), .int (r5 w 7), .ref (q 22)] [TW G h q f g] 0 0 := by
                        intro z hz
                        subst hz
                        refine ex_cP hR (c_TM_reckon l G _ _ _ _) (eg_invS d_TM_step_515 cd_TM_reckon cx_TM_212 rfl rfl) cd_TM_reckon (Nat.le_of_ble_eq_true rfl) (by decide) (by decide) (by decide) (by decide) rfl ?_
                        refine ts_22 0 d_TM_step_518 rfl (r5_ix w 7) ?_
                        refine ex_goto d_TM_step_519 ?_
                        refine ex_forget [true, false, false, false, false, false, false, true, false, false] ?_
                        exact J _ (g 1) _ _ (gMR_R g _).symm (by rw [hts, e101_19, txo_19, if_neg hc19]; rfl)
                      refine ex_il d_TM_step_495 rfl ?_
                      refine ex_k d_TM_step_497 ?_
                      refine ex_icmp_ne d_TM_step_498 (fun h498 => ?_) (fun h498 => ?_)
                      · skip
                        have h498 : ¬ wK w = 5 := h498
                        refine ex_k d_TM_step_514 ?_
                        exact J6 _ (by clear J J6 KT T19 hts hG hR hc19; grind [bI])
                      · skip
                        have h498 : wK w = 5 := h498
                        refine ex_il d_TM_step_501 rfl ?_
                        refine ex_k d_TM_step_502 ?_
                        refine ex_iushr d_TM_step_504 ?_
                        refine ex_k d_TM_step_505 ?_
                        refine ex_icmp_ne d_TM_step_507 (fun h507 => ?_) (fun h507 => ?_)
                        · skip
                          have h507 : ¬ wT w = 32 := h507
                          refine ex_k d_TM_step_514 ?_
                          exact J6 _ (by clear J J6 KT T19 hts hG hR hc19; grind [bI])
                        · skip
                          have h507 : wT w = 32 := h507
                          refine ex_k d_TM_step_510 ?_
                          refine ex_goto d_TM_step_511 ?_
                          exact J6 _ (by clear J J6 KT T19 hts hG hR hc19; grind [bI])
                    refine ex_al d_TM_step_463 rfl ?_
                    refine tg 0 fl_TM_54 d_TM_step_464 rfl rfl ?_
                    refine ex_il d_TM_step_467 rfl ?_
                    refine ex_il d_TM_step_468 rfl ?_
                    refine ex_il d_TM_step_470 rfl ?_
                    refine ex_il d_TM_step_471 rfl ?_
                    refine ex_k d_TM_step_473 ?_
                    refine ex_icmp_eq d_TM_step_474 (fun h474 => ?_) (fun h474 => ?_)
                    · skip
                      have h474 : wK w = 1 := h474
                      refine ex_il d_TM_step_483 rfl ?_
                      refine ex_k d_TM_step_484 ?_
                      refine ex_k d_TM_step_486 ?_
                      refine ex_cP hR (c_TM_bitsN l G _ _ _ 31 (by decide)) (eg_invS d_TM_step_487 cd_TM_bits cx_TM_198 rfl rfl) cd_TM_bits (Nat.le_of_ble_eq_true rfl) (by decide) (by decide) (by decide) (by decide) rfl ?_
                      refine ex_goto d_TM_step_490 ?_
                      exact J5 _ (by rw [if_pos (Or.inl h474)]; rfl)
                    · skip
                      have h474 : ¬ wK w = 1 := h474
                      refine ex_il d_TM_step_477 rfl ?_
                      refine ex_k d_TM_step_479 ?_
                      refine ex_icmp_ne d_TM_step_480 (fun h480 => ?_) (fun h480 => ?_)
                      · skip
                        have h480 : ¬ wK w = 5 := h480
                        refine ex_il d_TM_step_493 rfl ?_
                        exact J5 _ (by rw [if_neg (by rintro (z | z); exact h474 z; exact h480 z)])
                      · skip
                        have h480 : wK w = 5 := h480
                        refine ex_il d_TM_step_483 rfl ?_
                        refine ex_k d_TM_step_484 ?_
                        refine ex_k d_TM_step_486 ?_
                        refine ex_cP hR (c_TM_bitsN l G _ _ _ 31 (by decide)) (eg_invS d_TM_step_487 cd_TM_bits cx_TM_198 rfl rfl) cd_TM_bits (Nat.le_of_ble_eq_true rfl) (by decide) (by decide) (by decide) (by decide) rfl ?_
                        refine ex_goto d_TM_step_490 ?_
                        exact J5 _ (by rw [if_pos (Or.inr h480)]; rfl)
                  · skip
                    have h458 : ¬ wT w = 32 := h458
                    refine ex_k d_TM_step_461 ?_
                    exact ex_iret [TW G h q f g] hG d_TM_step_462 rfl rfl (by decide) (by decide) (eg_sub.of rfl) (T19 (Or.inr ⟨h442, h449, h458⟩))
        by_cases e101_23 : w &&& 127 = 23
        · skip
          refine ex_eqT (.int 23 :: _) (by rw [e101_23]) ?_
          refine ex_look (tgt := 198) (o := 97) d_TM_step_101 (by decide) (by decide) (by decide) ?_
          refine ex_al d_TM_step_198 rfl ?_
          refine tg 0 fl_TM_54 d_TM_step_199 rfl rfl ?_
          refine ex_il d_TM_step_202 rfl ?_
          refine ex_al d_TM_step_203 rfl ?_
          refine tg 0 fl_TM_191 d_TM_step_204 rfl rfl ?_
          refine ex_il d_TM_step_207 rfl ?_
          refine ex_k d_TM_step_208 ?_
          refine ex_iand d_TM_step_211 ?_
          refine ex_iadd d_TM_step_212 ?_
          refine ts_22 0 d_TM_step_213 rfl (r5_ix w 7) ?_
          refine ex_goto d_TM_step_214 ?_
          refine ex_forget [true, false, false, false, false, false, false, true, false, false] ?_
          exact J _ (g 1) (upd (g 22) (wRd w) (f 30 + (w &&& -4096))) _ (gMR_R g _).symm (by rw [hts, e101_23]; rfl)
        by_cases e101_35 : w &&& 127 = 35
        · skip
          refine ex_eqT (.int 35 :: _) (by rw [e101_35]) ?_
          refine ex_look (tgt := 398) (o := 297) d_TM_step_101 (by decide) (by decide) (by decide) ?_
          obtain ⟨kk, hkk, hk⟩ := wK_lt w
          refine ex_al d_TM_step_398 rfl ?_
          refine ex_il d_TM_step_399 rfl ?_
          refine ex_il d_TM_step_401 rfl ?_
          refine ex_il d_TM_step_402 rfl ?_
          refine ex_k d_TM_step_403 ?_
          refine ex_ishr d_TM_step_405 ?_
          refine ex_k d_TM_step_406 ?_
          refine ex_ishl d_TM_step_407 ?_
          refine ex_il d_TM_step_408 rfl ?_
          refine ex_ior d_TM_step_409 ?_
          refine ex_iadd d_TM_step_410 ?_
          refine ex_il d_TM_step_411 rfl ?_
          refine ex_eqT [.int (wY (g 22) w), .int (wX (g 22) w + wS w), .int (nI kk), .ref h] (by rw [← hk]; rfl) ?_
          refine ex_cF [0] hR (c_TM_store l G h q f g kk hkk (wX (g 22) w + wS w) (wY (g 22) w) hse) (eg_invV 0 d_TM_step_413 cd_TM_store cx_TM_209 rfl rfl List.mem_cons_self rfl rfl) cd_TM_store rfl rfl (Nat.le_of_ble_eq_true rfl) (by decide) (by decide) (by decide) (by decide) rfl ?_
          refine ex_eqT [.int (stT (gdB f g) (wK w) (wX (g 22) w + wS w))] (by rw [hk]) ?_
          refine ex_is d_TM_step_416 (Nat.le_of_ble_eq_true rfl) ?_
          refine ex_il d_TM_step_418 rfl ?_
          refine ex_if_le d_TM_step_420 (fun h420 => ?_) (fun h420 => ?_)
          · skip
            have h420 : stT (gdB f g) (wK w) (wX (g 22) w + wS w) = 0 := i_cast h420 (stT_ge _ _ _)
            refine ex_forget [true, false, false, false, false, false, false, true, false, false] ?_
            exact J _ (putB (g 1) (wX (g 22) w + wS w).toNatClampNeg (wY (g 22) w) (stN (wK w))) (g 22) _ (by rw [gMR_M, ← hk, if_pos h420]) (by rw [hts, e101_35, txo_35, h420, if_pos rfl, if_pos rfl])
          · skip
            have h420 : ¬ stT (gdB f g) (wK w) (wX (g 22) w + wS w) = 0 := fun z => h420 (by rw [z]; decide)
            refine ex_eqS [TW G h q f g] (by show [TW G h q f _] = _; rw [← hk, if_neg h420]) ?_
            refine ex_il d_TM_step_423 rfl ?_
            exact ex_iret [TW G h q f g] hG d_TM_step_425 rfl rfl (by decide) (by decide) (eg_sub.of rfl) (KT _ (by rw [hts, e101_35, txo_35, if_neg h420, if_neg h420]))
        by_cases e101_51 : w &&& 127 = 51
        · skip
          refine ex_eqT (.int 51 :: _) (by rw [e101_51]) ?_
          refine ex_look (tgt := 522) (o := 421) d_TM_step_101 (by decide) (by decide) (by decide) ?_
          have T51 : (¬ wT w = 0 ∧ (¬ wT w = 32 ∨ (¬ wK w = 0 ∧ ¬ wK w = 5))) → (rF (some (.int (tstep (gdB f g) (g 1) (g 22) (f 30)).1)) [TW G h q (va_up f 30 (tstep (gdB f g) (g 1) (g 22) (f 30)).2.2.2) (gMR g (tstep (gdB f g) (g 1) (g 22) (f 30)).2.1 (tstep (gdB f g) (g 1) (g 22) (f 30)).2.2.1)]) (.inl (some (.int 3))) [TW G h q f g] := fun hc => KT 3 (by rw [hts, e101_51, txo_51, if_pos hc])
          refine ex_il d_TM_step_522 rfl ?_
          refine ex_k d_TM_step_523 ?_
          refine ex_iushr d_TM_step_525 ?_
          refine ex_if_eq d_TM_step_526 (fun h526 => ?_) (fun h526 => ?_)
          · skip
            have h526 : wT w = 0 := h526
            have hc51 : ¬ (¬ wT w = 0 ∧ (¬ wT w = 32 ∨ (¬ wK w = 0 ∧ ¬ wK w = 5))) := by clear J KT T51 hts hG hR; grind
            have J7 : ∀ z : Int32, z = (if wK w = 0 ∧ wT w = 32 then wX (g 22) w - wY (g 22) w else rkI (wK w) (wX (g 22) w) (wY (g 22) w) (decide (wT w = 32))) → Ex G Γ mu_TM_step 599 [some (.ref h), some (.int w), some (.int (r5 w 7)), some (.int (wX (g 22) w)), some (.int (wY (g 22) w)), some (.int (wK w)), some (.int (wI w)), some (.int (f 30 + 4)), none, none] [.int z, .int (r5 w 7), .ref (q 22)] [TW G h q f g] 0 0 := by
              intro z hz
              subst hz
              refine ts_22 0 d_TM_step_599 rfl (r5_ix w 7) ?_
              refine ex_goto d_TM_step_600 ?_
              refine ex_forget [true, false, false, false, false, false, false, true, false, false] ?_
              exact J _ (g 1) _ _ (gMR_R g _).symm (by rw [hts, e101_51, txo_51, if_neg hc51]; rfl)
            have J8 : ∀ z : Int32, z = bI (decide (wT w = 32)) → ¬ (wK w = 0 ∧ wT w = 32) → Ex G Γ mu_TM_step 596 [some (.ref h), some (.int w), some (.int (r5 w 7)), some (.int (wX (g 22) w)), some (.int (wY (g 22) w)), some (.int (wK w)), some (.int (wI w)), some (.int (f 30 + 4)), none, none] [.int z, .int (wY (g 22) w), .int (wX (g 22) w), .int (wK w), .int (r5 w 7), .ref (q 22)] [TW G h q f g] 0 0 := by
              intro z hz
              intro hn
              subst hz
              refine ex_cP hR (c_TM_reckon l G _ _ _ _) (eg_invS d_TM_step_596 cd_TM_reckon cx_TM_212 rfl rfl) cd_TM_reckon (Nat.le_of_ble_eq_true rfl) (by decide) (by decide) (by decide) (by decide) rfl ?_
              exact J7 _ (by rw [if_neg hn])
            refine ex_al d_TM_step_551 rfl ?_
            refine tg 0 fl_TM_54 d_TM_step_552 rfl rfl ?_
            refine ex_il d_TM_step_555 rfl ?_
            refine ex_il d_TM_step_556 rfl ?_
            refine ex_if_ne d_TM_step_558 (fun h558 => ?_) (fun h558 => ?_)
            · skip
              have h558 : ¬ wK w = 0 := h558
              refine ex_il d_TM_step_577 rfl ?_
              refine ex_il d_TM_step_579 rfl ?_
              refine ex_il d_TM_step_580 rfl ?_
              refine ex_il d_TM_step_582 rfl ?_
              refine ex_k d_TM_step_583 ?_
              refine ex_iushr d_TM_step_585 ?_
              refine ex_k d_TM_step_586 ?_
              refine ex_icmp_ne d_TM_step_588 (fun h588 => ?_) (fun h588 => ?_)
              · skip
                have h588 : ¬ wT w = 32 := h588
                refine ex_k d_TM_step_595 ?_
                exact J8 _ (bI_e (decide_eq_false h588)) (by rintro ⟨z1, z2⟩; exact h558 z1)
              · skip
                have h588 : wT w = 32 := h588
                refine ex_k d_TM_step_591 ?_
                refine ex_goto d_TM_step_592 ?_
                exact J8 _ (bI_t (decide_eq_true h588)) (by rintro ⟨z1, z2⟩; exact h558 z1)
            · skip
              have h558 : wK w = 0 := h558
              refine ex_il d_TM_step_561 rfl ?_
              refine ex_k d_TM_step_562 ?_
              refine ex_iushr d_TM_step_564 ?_
              refine ex_k d_TM_step_565 ?_
              refine ex_icmp_ne d_TM_step_567 (fun h567 => ?_) (fun h567 => ?_)
              · skip
                have h567 : ¬ wT w = 32 := h567
                refine ex_il d_TM_step_577 rfl ?_
                refine ex_il d_TM_step_579 rfl ?_
                refine ex_il d_TM_step_580 rfl ?_
                refine ex_il d_TM_step_582 rfl ?_
                refine ex_k d_TM_step_583 ?_
                refine ex_iushr d_TM_step_585 ?_
                refine ex_k d_TM_step_586 ?_
                refine ex_icmp_ne d_TM_step_588 (fun h588 => ?_) (fun h588 => ?_)
                · skip
                  have h588 : ¬ wT w = 32 := h588
                  refine ex_k d_TM_step_595 ?_
                  exact J8 _ (bI_e (decide_eq_false h588)) (by rintro ⟨z1, z2⟩; exact h567 z2)
                · skip
                  have h588 : wT w = 32 := h588
                  refine ex_k d_TM_step_591 ?_
                  refine ex_goto d_TM_step_592 ?_
                  exact J8 _ (bI_t (decide_eq_true h588)) (by rintro ⟨z1, z2⟩; exact h567 z2)
              · skip
                have h567 : wT w = 32 := h567
                refine ex_il d_TM_step_570 rfl ?_
                refine ex_il d_TM_step_571 rfl ?_
                refine ex_isub d_TM_step_573 ?_
                refine ex_goto d_TM_step_574 ?_
                exact J7 _ (by rw [if_pos ⟨h558, h567⟩])
          · skip
            have h526 : ¬ wT w = 0 := h526
            refine ex_il d_TM_step_529 rfl ?_
            refine ex_k d_TM_step_530 ?_
            refine ex_iushr d_TM_step_532 ?_
            refine ex_k d_TM_step_533 ?_
            refine ex_icmp_ne d_TM_step_535 (fun h535 => ?_) (fun h535 => ?_)
            · skip
              have h535 : ¬ wT w = 32 := h535
              refine ex_k d_TM_step_549 ?_
              exact ex_iret [TW G h q f g] hG d_TM_step_550 rfl rfl (by decide) (by decide) (eg_sub.of rfl) (T51 ⟨h526, Or.inl h535⟩)
            · skip
              have h535 : wT w = 32 := h535
              refine ex_il d_TM_step_538 rfl ?_
              refine ex_if_eq d_TM_step_540 (fun h540 => ?_) (fun h540 => ?_)
              · skip
                have h540 : wK w = 0 := h540
                have hc51 : ¬ (¬ wT w = 0 ∧ (¬ wT w = 32 ∨ (¬ wK w = 0 ∧ ¬ wK w = 5))) := by clear J KT T51 hts hG hR; grind
                have J7 : ∀ z : Int32, z = (if wK w = 0 ∧ wT w = 32 then wX (g 22) w - wY (g 22) w else rkI (wK w) (wX (g 22) w) (wY (g 22) w) (decide (wT w = 32))) → Ex G Γ mu_TM_step 599 [some (.ref h), some (.int w), some (.int (r5 w 7)), some (.int (wX (g 22) w)), some (.int (wY (g 22) w)), some (.int (wK w)), some (.int (wI w)), some (.int (f 30 + 4)), none, none] [.int z, .int (r5 w 7), .ref (q 22)] [TW G h q f g] 0 0 := by
                  intro z hz
                  subst hz
                  refine ts_22 0 d_TM_step_599 rfl (r5_ix w 7) ?_
                  refine ex_goto d_TM_step_600 ?_
                  refine ex_forget [true, false, false, false, false, false, false, true, false, false] ?_
                  exact J _ (g 1) _ _ (gMR_R g _).symm (by rw [hts, e101_51, txo_51, if_neg hc51]; rfl)
                have J8 : ∀ z : Int32, z = bI (decide (wT w = 32)) → ¬ (wK w = 0 ∧ wT w = 32) → Ex G Γ mu_TM_step 596 [some (.ref h), some (.int w), some (.int (r5 w 7)), some (.int (wX (g 22) w)), some (.int (wY (g 22) w)), some (.int (wK w)), some (.int (wI w)), some (.int (f 30 + 4)), none, none] [.int z, .int (wY (g 22) w), .int (wX (g 22) w), .int (wK w), .int (r5 w 7), .ref (q 22)] [TW G h q f g] 0 0 := by
                  intro z hz
                  intro hn
                  subst hz
                  refine ex_cP hR (c_TM_reckon l G _ _ _ _) (eg_invS d_TM_step_596 cd_TM_reckon cx_TM_212 rfl rfl) cd_TM_reckon (Nat.le_of_ble_eq_true rfl) (by decide) (by decide) (by decide) (by decide) rfl ?_
                  exact J7 _ (by rw [if_neg hn])
                refine ex_al d_TM_step_551 rfl ?_
                refine tg 0 fl_TM_54 d_TM_step_552 rfl rfl ?_
                refine ex_il d_TM_step_555 rfl ?_
                refine ex_il d_TM_step_556 rfl ?_
                refine ex_if_ne d_TM_step_558 (fun h558 => ?_) (fun h558 => ?_)
                · skip
                  have h558 : ¬ wK w = 0 := h558
                  refine ex_il d_TM_step_577 rfl ?_
                  refine ex_il d_TM_step_579 rfl ?_
                  refine ex_il d_TM_step_580 rfl ?_
                  refine ex_il d_TM_step_582 rfl ?_
                  refine ex_k d_TM_step_583 ?_
                  refine ex_iushr d_TM_step_585 ?_
                  refine ex_k d_TM_step_586 ?_
                  refine ex_icmp_ne d_TM_step_588 (fun h588 => ?_) (fun h588 => ?_)
                  · skip
                    have h588 : ¬ wT w = 32 := h588
                    refine ex_k d_TM_step_595 ?_
                    exact J8 _ (bI_e (decide_eq_false h588)) (by rintro ⟨z1, z2⟩; exact h558 z1)
                  · skip
                    have h588 : wT w = 32 := h588
                    refine ex_k d_TM_step_591 ?_
                    refine ex_goto d_TM_step_592 ?_
                    exact J8 _ (bI_t (decide_eq_true h588)) (by rintro ⟨z1, z2⟩; exact h558 z1)
                · skip
                  have h558 : wK w = 0 := h558
                  refine ex_il d_TM_step_561 rfl ?_
                  refine ex_k d_TM_step_562 ?_
                  refine ex_iushr d_TM_step_564 ?_
                  refine ex_k d_TM_step_565 ?_
                  refine ex_icmp_ne d_TM_step_567 (fun h567 => ?_) (fun h567 => ?_)
                  · skip
                    have h567 : ¬ wT w = 32 := h567
                    refine ex_il d_TM_step_577 rfl ?_
                    refine ex_il d_TM_step_579 rfl ?_
                    refine ex_il d_TM_step_580 rfl ?_
                    refine ex_il d_TM_step_582 rfl ?_
                    refine ex_k d_TM_step_583 ?_
                    refine ex_iushr d_TM_step_585 ?_
                    refine ex_k d_TM_step_586 ?_
                    refine ex_icmp_ne d_TM_step_588 (fun h588 => ?_) (fun h588 => ?_)
                    · skip
                      have h588 : ¬ wT w = 32 := h588
                      refine ex_k d_TM_step_595 ?_
                      exact J8 _ (bI_e (decide_eq_false h588)) (by rintro ⟨z1, z2⟩; exact h567 z2)
                    · skip
                      have h588 : wT w = 32 := h588
                      refine ex_k d_TM_step_591 ?_
                      refine ex_goto d_TM_step_592 ?_
                      exact J8 _ (bI_t (decide_eq_true h588)) (by rintro ⟨z1, z2⟩; exact h567 z2)
                  · skip
                    have h567 : wT w = 32 := h567
                    refine ex_il d_TM_step_570 rfl ?_
                    refine ex_il d_TM_step_571 rfl ?_
                    refine ex_isub d_TM_step_573 ?_
                    refine ex_goto d_TM_step_574 ?_
                    exact J7 _ (by rw [if_pos ⟨h558, h567⟩])
              · skip
                have h540 : ¬ wK w = 0 := h540
                refine ex_il d_TM_step_543 rfl ?_
                refine ex_k d_TM_step_545 ?_
                refine ex_icmp_eq d_TM_step_546 (fun h546 => ?_) (fun h546 => ?_)
                · skip
                  have h546 : wK w = 5 := h546
                  have hc51 : ¬ (¬ wT w = 0 ∧ (¬ wT w = 32 ∨ (¬ wK w = 0 ∧ ¬ wK w = 5))) := by clear J KT T51 hts hG hR; grind
                  have J7 : ∀ z : Int32, z = (if wK w = 0 ∧ wT w = 32 then wX (g 22) w - wY (g 22) w else rkI (wK w) (wX (g 22) w) (wY (g 22) w) (decide (wT w = 32))) → Ex G Γ mu_TM_step 599 [some (.ref h), some (.int w), some (.int (r5 w 7)), some (.int (wX (g 22) w)), some (.int (wY (g 22) w)), some (.int (wK w)), some (.int (wI w)), some (.int (f 30 + 4)), none, none] [.int z, .int (r5 w 7), .ref (q 22)] [TW G h q f g] 0 0 := by
                    intro z hz
                    subst hz
                    refine ts_22 0 d_TM_step_599 rfl (r5_ix w 7) ?_
                    refine ex_goto d_TM_step_600 ?_
                    refine ex_forget [true, false, false, false, false, false, false, true, false, false] ?_
                    exact J _ (g 1) _ _ (gMR_R g _).symm (by rw [hts, e101_51, txo_51, if_neg hc51]; rfl)
                  have J8 : ∀ z : Int32, z = bI (decide (wT w = 32)) → ¬ (wK w = 0 ∧ wT w = 32) → Ex G Γ mu_TM_step 596 [some (.ref h), some (.int w), some (.int (r5 w 7)), some (.int (wX (g 22) w)), some (.int (wY (g 22) w)), some (.int (wK w)), some (.int (wI w)), some (.int (f 30 + 4)), none, none] [.int z, .int (wY (g 22) w), .int (wX (g 22) w), .int (wK w), .int (r5 w 7), .ref (q 22)] [TW G h q f g] 0 0 := by
                    intro z hz
                    intro hn
                    subst hz
                    refine ex_cP hR (c_TM_reckon l G _ _ _ _) (eg_invS d_TM_step_596 cd_TM_reckon cx_TM_212 rfl rfl) cd_TM_reckon (Nat.le_of_ble_eq_true rfl) (by decide) (by decide) (by decide) (by decide) rfl ?_
                    exact J7 _ (by rw [if_neg hn])
                  refine ex_al d_TM_step_551 rfl ?_
                  refine tg 0 fl_TM_54 d_TM_step_552 rfl rfl ?_
                  refine ex_il d_TM_step_555 rfl ?_
                  refine ex_il d_TM_step_556 rfl ?_
                  refine ex_if_ne d_TM_step_558 (fun h558 => ?_) (fun h558 => ?_)
                  · skip
                    have h558 : ¬ wK w = 0 := h558
                    refine ex_il d_TM_step_577 rfl ?_
                    refine ex_il d_TM_step_579 rfl ?_
                    refine ex_il d_TM_step_580 rfl ?_
                    refine ex_il d_TM_step_582 rfl ?_
                    refine ex_k d_TM_step_583 ?_
                    refine ex_iushr d_TM_step_585 ?_
                    refine ex_k d_TM_step_586 ?_
                    refine ex_icmp_ne d_TM_step_588 (fun h588 => ?_) (fun h588 => ?_)
                    · skip
                      have h588 : ¬ wT w = 32 := h588
                      refine ex_k d_TM_step_595 ?_
                      exact J8 _ (bI_e (decide_eq_false h588)) (by rintro ⟨z1, z2⟩; exact h558 z1)
                    · skip
                      have h588 : wT w = 32 := h588
                      refine ex_k d_TM_step_591 ?_
                      refine ex_goto d_TM_step_592 ?_
                      exact J8 _ (bI_t (decide_eq_true h588)) (by rintro ⟨z1, z2⟩; exact h558 z1)
                  · skip
                    have h558 : wK w = 0 := h558
                    refine ex_il d_TM_step_561 rfl ?_
                    refine ex_k d_TM_step_562 ?_
                    refine ex_iushr d_TM_step_564 ?_
                    refine ex_k d_TM_step_565 ?_
                    refine ex_icmp_ne d_TM_step_567 (fun h567 => ?_) (fun h567 => ?_)
                    · skip
                      have h567 : ¬ wT w = 32 := h567
                      refine ex_il d_TM_step_577 rfl ?_
                      refine ex_il d_TM_step_579 rfl ?_
                      refine ex_il d_TM_step_580 rfl ?_
                      refine ex_il d_TM_step_582 rfl ?_
                      refine ex_k d_TM_step_583 ?_
                      refine ex_iushr d_TM_step_585 ?_
                      refine ex_k d_TM_step_586 ?_
                      refine ex_icmp_ne d_TM_step_588 (fun h588 => ?_) (fun h588 => ?_)
                      · skip
                        have h588 : ¬ wT w = 32 := h588
                        refine ex_k d_TM_step_595 ?_
                        exact J8 _ (bI_e (decide_eq_false h588)) (by rintro ⟨z1, z2⟩; exact h567 z2)
                      · skip
                        have h588 : wT w = 32 := h588
                        refine ex_k d_TM_step_591 ?_
                        refine ex_goto d_TM_step_592 ?_
                        exact J8 _ (bI_t (decide_eq_true h588)) (by rintro ⟨z1, z2⟩; exact h567 z2)
                    · skip
                      have h567 : wT w = 32 := h567
                      refine ex_il d_TM_step_570 rfl ?_
                      refine ex_il d_TM_step_571 rfl ?_
                      refine ex_isub d_TM_step_573 ?_
                      refine ex_goto d_TM_step_574 ?_
                      exact J7 _ (by rw [if_pos ⟨h558, h567⟩])
                · skip
                  have h546 : ¬ wK w = 5 := h546
                  refine ex_k d_TM_step_549 ?_
                  exact ex_iret [TW G h q f g] hG d_TM_step_550 rfl rfl (by decide) (by decide) (eg_sub.of rfl) (T51 ⟨h526, Or.inr ⟨h540, h546⟩⟩)
        by_cases e101_55 : w &&& 127 = 55
        · skip
          refine ex_eqT (.int 55 :: _) (by rw [e101_55]) ?_
          refine ex_look (tgt := 184) (o := 83) d_TM_step_101 (by decide) (by decide) (by decide) ?_
          refine ex_al d_TM_step_184 rfl ?_
          refine tg 0 fl_TM_54 d_TM_step_185 rfl rfl ?_
          refine ex_il d_TM_step_188 rfl ?_
          refine ex_il d_TM_step_189 rfl ?_
          refine ex_k d_TM_step_190 ?_
          refine ex_iand d_TM_step_193 ?_
          refine ts_22 0 d_TM_step_194 rfl (r5_ix w 7) ?_
          refine ex_goto d_TM_step_195 ?_
          refine ex_forget [true, false, false, false, false, false, false, true, false, false] ?_
          exact J _ (g 1) (upd (g 22) (wRd w) (w &&& -4096)) _ (gMR_R g _).symm (by rw [hts, e101_55]; rfl)
        by_cases e101_99 : w &&& 127 = 99
        · skip
          refine ex_eqT (.int 99 :: _) (by rw [e101_99]) ?_
          refine ex_look (tgt := 303) (o := 202) d_TM_step_101 (by decide) (by decide) (by decide) ?_
          refine ex_il d_TM_step_303 rfl ?_
          refine ex_k d_TM_step_305 ?_
          refine ex_icmp_eq d_TM_step_306 (fun h306 => ?_) (fun h306 => ?_)
          · skip
            have h306 : wK w = 2 := h306
            refine ex_k d_TM_step_315 ?_
            exact ex_iret [TW G h q f g] hG d_TM_step_316 rfl rfl (by decide) (by decide) (eg_sub.of rfl) (KT _ (by rw [hts, e101_99, txo_99, if_pos (Or.inl h306)]))
          · skip
            have h306 : ¬ wK w = 2 := h306
            refine ex_il d_TM_step_309 rfl ?_
            refine ex_k d_TM_step_311 ?_
            refine ex_icmp_ne d_TM_step_312 (fun h312 => ?_) (fun h312 => ?_)
            · skip
              have h312 : ¬ wK w = 3 := h312
              refine ex_il d_TM_step_317 rfl ?_
              refine ex_il d_TM_step_319 rfl ?_
              refine ex_il d_TM_step_320 rfl ?_
              refine ex_cP hR (c_TM_isSo l G _ _ _) (eg_invS d_TM_step_322 cd_TM_isSo cx_TM_202 rfl rfl) cd_TM_isSo (Nat.le_of_ble_eq_true rfl) (by decide) (by decide) (by decide) (by decide) rfl ?_
              refine ex_if_eq d_TM_step_325 (fun h325 => ?_) (fun h325 => ?_)
              · skip
                have h325 : ¬ soB (wK w) (wX (g 22) w) (wY (g 22) w) = true := by rw [bI_0.mp h325]; decide
                refine ex_forget [true, false, false, false, false, false, false, true, false, false] ?_
                exact J _ (g 1) (g 22) _ (gMR_same g).symm (by rw [hts, e101_99, txo_99, if_neg (by rintro (z | z); exact h306 z; exact h312 z), if_neg h325]; try rfl)
              · skip
                have h325 : soB (wK w) (wX (g 22) w) (wY (g 22) w) = true := by cases hb : soB (wK w) (wX (g 22) w) (wY (g 22) w); exact absurd (bI_0.mpr hb) h325; rfl
                refine ex_al d_TM_step_328 rfl ?_
                refine tg 0 fl_TM_191 d_TM_step_329 rfl rfl ?_
                refine ex_il d_TM_step_332 rfl ?_
                refine ex_k d_TM_step_333 ?_
                refine ex_ishr d_TM_step_335 ?_
                refine ex_k d_TM_step_336 ?_
                refine ex_ishl d_TM_step_338 ?_
                refine ex_il d_TM_step_339 rfl ?_
                refine ex_k d_TM_step_340 ?_
                refine ex_k d_TM_step_342 ?_
                refine ex_cP hR (c_TM_bitsN l G _ _ _ 1 (by decide)) (eg_invS d_TM_step_343 cd_TM_bits cx_TM_198 rfl rfl) cd_TM_bits (Nat.le_of_ble_eq_true rfl) (by decide) (by decide) (by decide) (by decide) rfl ?_
                refine ex_k d_TM_step_346 ?_
                refine ex_ishl d_TM_step_348 ?_
                refine ex_ior d_TM_step_349 ?_
                refine ex_il d_TM_step_350 rfl ?_
                refine ex_k d_TM_step_351 ?_
                refine ex_k d_TM_step_353 ?_
                refine ex_cP hR (c_TM_bitsN l G _ _ _ 63 (by decide)) (eg_invS d_TM_step_355 cd_TM_bits cx_TM_198 rfl rfl) cd_TM_bits (Nat.le_of_ble_eq_true rfl) (by decide) (by decide) (by decide) (by decide) rfl ?_
                refine ex_k d_TM_step_358 ?_
                refine ex_ishl d_TM_step_359 ?_
                refine ex_ior d_TM_step_360 ?_
                refine ex_il d_TM_step_361 rfl ?_
                refine ex_k d_TM_step_362 ?_
                refine ex_k d_TM_step_364 ?_
                refine ex_cP hR (c_TM_bitsN l G _ _ _ 15 (by decide)) (eg_invS d_TM_step_365 cd_TM_bits cx_TM_198 rfl rfl) cd_TM_bits (Nat.le_of_ble_eq_true rfl) (by decide) (by decide) (by decide) (by decide) rfl ?_
                refine ex_k d_TM_step_368 ?_
                refine ex_ishl d_TM_step_369 ?_
                refine ex_ior d_TM_step_370 ?_
                refine ex_iadd d_TM_step_371 ?_
                refine ex_is d_TM_step_372 (Nat.le_of_ble_eq_true rfl) ?_
                refine ex_goto d_TM_step_374 ?_
                refine ex_forget [true, false, false, false, false, false, false, true, false, false] ?_
                exact J _ (g 1) (g 22) _ (gMR_same g).symm (by rw [hts, e101_99, txo_99, if_neg (by rintro (z | z); exact h306 z; exact h312 z), if_pos h325]; try rfl)
            · skip
              have h312 : wK w = 3 := h312
              refine ex_k d_TM_step_315 ?_
              exact ex_iret [TW G h q f g] hG d_TM_step_316 rfl rfl (by decide) (by decide) (eg_sub.of rfl) (KT _ (by rw [hts, e101_99, txo_99, if_pos (Or.inr h312)]))
        by_cases e101_103 : w &&& 127 = 103
        · skip
          refine ex_eqT (.int 103 :: _) (by rw [e101_103]) ?_
          refine ex_look (tgt := 276) (o := 175) d_TM_step_101 (by decide) (by decide) (by decide) ?_
          refine ex_il d_TM_step_276 rfl ?_
          refine ex_if_eq d_TM_step_278 (fun h278 => ?_) (fun h278 => ?_)
          · skip
            have h278 : wK w = 0 := h278
            refine ex_al d_TM_step_283 rfl ?_
            refine tg 0 fl_TM_54 d_TM_step_284 rfl rfl ?_
            refine ex_il d_TM_step_287 rfl ?_
            refine ex_il d_TM_step_288 rfl ?_
            refine ts_22 0 d_TM_step_290 rfl (r5_ix w 7) ?_
            refine ex_il d_TM_step_291 rfl ?_
            refine ex_il d_TM_step_292 rfl ?_
            refine ex_iadd d_TM_step_294 ?_
            refine ex_k d_TM_step_295 ?_
            refine ex_iand d_TM_step_297 ?_
            refine ex_is d_TM_step_298 (Nat.le_of_ble_eq_true rfl) ?_
            refine ex_goto d_TM_step_300 ?_
            refine ex_forget [true, false, false, false, false, false, false, true, false, false] ?_
            exact J _ (g 1) (upd (g 22) (wRd w) (f 30 + 4)) _ (gMR_R g _).symm (by rw [hts, e101_103, txo_103, if_pos h278])
          · skip
            have h278 : ¬ wK w = 0 := h278
            refine ex_k d_TM_step_281 ?_
            exact ex_iret [TW G h q f g] hG d_TM_step_282 rfl rfl (by decide) (by decide) (eg_sub.of rfl) (KT _ (by rw [hts, e101_103, txo_103, if_neg h278]))
        by_cases e101_111 : w &&& 127 = 111
        · skip
          refine ex_eqT (.int 111 :: _) (by rw [e101_111]) ?_
          refine ex_look (tgt := 217) (o := 116) d_TM_step_101 (by decide) (by decide) (by decide) ?_
          refine ex_al d_TM_step_217 rfl ?_
          refine tg 0 fl_TM_54 d_TM_step_218 rfl rfl ?_
          refine ex_il d_TM_step_221 rfl ?_
          refine ex_il d_TM_step_222 rfl ?_
          refine ts_22 0 d_TM_step_224 rfl (r5_ix w 7) ?_
          refine ex_al d_TM_step_225 rfl ?_
          refine tg 0 fl_TM_191 d_TM_step_226 rfl rfl ?_
          refine ex_il d_TM_step_229 rfl ?_
          refine ex_k d_TM_step_230 ?_
          refine ex_ishr d_TM_step_232 ?_
          refine ex_k d_TM_step_233 ?_
          refine ex_ishl d_TM_step_235 ?_
          refine ex_il d_TM_step_236 rfl ?_
          refine ex_k d_TM_step_237 ?_
          refine ex_k d_TM_step_239 ?_
          refine ex_cP hR (c_TM_bitsN l G _ _ _ 255 (by decide)) (eg_invS d_TM_step_241 cd_TM_bits cx_TM_198 rfl rfl) cd_TM_bits (Nat.le_of_ble_eq_true rfl) (by decide) (by decide) (by decide) (by decide) rfl ?_
          refine ex_k d_TM_step_244 ?_
          refine ex_ishl d_TM_step_246 ?_
          refine ex_ior d_TM_step_247 ?_
          refine ex_il d_TM_step_248 rfl ?_
          refine ex_k d_TM_step_249 ?_
          refine ex_k d_TM_step_251 ?_
          refine ex_cP hR (c_TM_bitsN l G _ _ _ 1 (by decide)) (eg_invS d_TM_step_252 cd_TM_bits cx_TM_198 rfl rfl) cd_TM_bits (Nat.le_of_ble_eq_true rfl) (by decide) (by decide) (by decide) (by decide) rfl ?_
          refine ex_k d_TM_step_255 ?_
          refine ex_ishl d_TM_step_257 ?_
          refine ex_ior d_TM_step_258 ?_
          refine ex_il d_TM_step_259 rfl ?_
          refine ex_k d_TM_step_260 ?_
          refine ex_k d_TM_step_262 ?_
          refine ex_cP hR (c_TM_bitsN l G _ _ _ 1023 (by decide)) (eg_invS d_TM_step_264 cd_TM_bits cx_TM_198 rfl rfl) cd_TM_bits (Nat.le_of_ble_eq_true rfl) (by decide) (by decide) (by decide) (by decide) rfl ?_
          refine ex_k d_TM_step_267 ?_
          refine ex_ishl d_TM_step_268 ?_
          refine ex_ior d_TM_step_269 ?_
          refine ex_iadd d_TM_step_270 ?_
          refine ex_is d_TM_step_271 (Nat.le_of_ble_eq_true rfl) ?_
          refine ex_goto d_TM_step_273 ?_
          refine ex_forget [true, false, false, false, false, false, false, true, false, false] ?_
          exact J _ (g 1) (upd (g 22) (wRd w) (f 30 + 4)) _ (gMR_R g _).symm (by rw [hts, e101_111]; rfl)
        refine ex_look (tgt := 603) (o := 502) d_TM_step_101 (by decide) (by show Op.lookupswitch.offset [(3, 276), (19, 325), (23, 97), (35, 297), (51, 421), (55, 83), (99, 202), (103, 175), (111, 116)] _ _ = _; rw [lv_osw e101_3 (by decide), lv_osw e101_19 (by decide), lv_osw e101_23 (by decide), lv_osw e101_35 (by decide), lv_osw e101_51 (by decide), lv_osw e101_55 (by decide), lv_osw e101_99 (by decide), lv_osw e101_103 (by decide), lv_osw e101_111 (by decide)]; rfl) (by decide) ?_
        refine ex_k d_TM_step_603 ?_
        exact ex_iret [TW G h q f g] hG d_TM_step_604 rfl rfl (by decide) (by decide) (eg_sub.of rfl) (KT _ (by rw [hts]; exact txo_d _ _ _ _ _ e101_55 e101_23 e101_111 e101_103 e101_99 e101_3 e101_35 e101_19 e101_51))
      · skip
        have hin : f 30 < 0 ∨ 4096 ≤ f 30 := Or.inr (Int32.not_lt.mp h25)
        refine ex_k d_TM_step_28 ?_
        exact ex_iret [TW G h q f g] hG d_TM_step_29 rfl rfl (by decide) (by decide) (eg_sub.of rfl) (KT _ (by rw [tstep, if_neg (fun z => z h6), if_pos hin]))
  · skip
    have h6 : ¬ f 30 - f 30 / 4 * 4 = 0 := h6
    refine ex_k d_TM_step_9 ?_
    exact ex_iret [TW G h q f g] hG d_TM_step_10 rfl rfl (by decide) (by decide) (eg_sub.of rfl) (KT _ (by rw [tstep, if_pos h6]))
/-- registers behind a step: the first stays 0 -/
def r0 (R : Nat → Int32) : Nat → Int32 := upd R 0 0
/-- the registers at a run's start -/
def rgZ (R : Nat → Int32) (n : Nat) : Nat → Int32 := fun i => if i < n then 0 else R i
theorem rgZ_s (R : Nat → Int32) (n : Nat) : upd (rgZ R n) n 0 = rgZ R (n + 1) := by
  funext i
  unfold upd rgZ
  by_cases h1 : i = n
  · rw [if_pos h1, if_pos (by omega)]
  · rw [if_neg h1]
    by_cases h2 : i < n
    · rw [if_pos h2, if_pos (by omega)]
    · rw [if_neg h2, if_neg (by omega)]
theorem rgZ_0 (R : Nat → Int32) : rgZ R 0 = R := funext fun i => if_neg (Nat.not_lt_zero i)
def rgS (R : Nat → Int32) (a b : Int32) : Nat → Int32 := upd (upd (upd (upd (rgZ R 32) 1 (-4)) 2 4096) 10 a) 11 b
theorem va_up_id {α : Type} {f : Nat → α} {k : Nat} {v : α} (h : f k = v) : va_up f k v = f := by rw [← h]; exact va_up_same f k
/-- a run with so much fuel left: (kind: 0 returned, 9 empty, else trapped), trap, made, memory, registers, pc -/
def mrun (P : Int32 → Bool) : Nat → Nat → (Nat → Int32) → (Nat → Int32) → Int32 → Int32 × Int32 × Nat × (Nat → Int32) × (Nat → Int32) × Int32
  | 0, made, M, R, pc => if pc = -4 then (0, 0, made, M, R, pc) else (9, 0, made, M, R, pc)
  | n + 1, made, M, R, pc => if pc = -4 then (0, 0, made, M, R, pc) else if (tstep P M R pc).1 = 0 then mrun P n (made + 1) (tstep P M R pc).2.1 (r0 (tstep P M R pc).2.2.1) (tstep P M R pc).2.2.2 else (8, (tstep P M R pc).1, made + 1, (tstep P M R pc).2.1, r0 (tstep P M R pc).2.2.1, (tstep P M R pc).2.2.2)
theorem txo_ge (op : Int32) (P : Int32 → Bool) (M R : Nat → Int32) (pc w : Int32) : 0 ≤ (txo op P M R pc w).1 := by
  unfold txo
  by_cases h55 : op = 55
  · rw [if_pos h55]
    show (0 : Int32) ≤ 0
    decide
  rw [if_neg h55]
  by_cases h23 : op = 23
  · rw [if_pos h23]
    show (0 : Int32) ≤ 0
    decide
  rw [if_neg h23]
  by_cases h111 : op = 111
  · rw [if_pos h111]
    show (0 : Int32) ≤ 0
    decide
  rw [if_neg h111]
  by_cases h103 : op = 103
  · rw [if_pos h103]
    split
    · first | (show (0 : Int32) ≤ 0; decide) | (show (0 : Int32) ≤ 3; decide)
    · first | (show (0 : Int32) ≤ 0; decide) | (show (0 : Int32) ≤ 3; decide)
  rw [if_neg h103]
  by_cases h99 : op = 99
  · rw [if_pos h99]
    split
    · first | (show (0 : Int32) ≤ 0; decide) | (show (0 : Int32) ≤ 3; decide)
    · first | (show (0 : Int32) ≤ 0; decide) | (show (0 : Int32) ≤ 3; decide)
  rw [if_neg h99]
  by_cases h3 : op = 3
  · rw [if_pos h3]
    exact ftT_ge _ _
  rw [if_neg h3]
  by_cases h35 : op = 35
  · rw [if_pos h35]
    exact stT_ge _ _ _
  rw [if_neg h35]
  by_cases h19 : op = 19
  · rw [if_pos h19]
    split
    · first | (show (0 : Int32) ≤ 0; decide) | (show (0 : Int32) ≤ 3; decide)
    · first | (show (0 : Int32) ≤ 0; decide) | (show (0 : Int32) ≤ 3; decide)
  rw [if_neg h19]
  by_cases h51 : op = 51
  · rw [if_pos h51]
    split
    · first | (show (0 : Int32) ≤ 0; decide) | (show (0 : Int32) ≤ 3; decide)
    · first | (show (0 : Int32) ≤ 0; decide) | (show (0 : Int32) ≤ 3; decide)
  rw [if_neg h51]
  show (0 : Int32) ≤ 3
  decide
theorem tstep_ge (P : Int32 → Bool) (M R : Nat → Int32) (pc : Int32) : 0 ≤ (tstep P M R pc).1 := by
  unfold tstep
  split
  · show (0 : Int32) ≤ 1
    decide
  · split
    · show (0 : Int32) ≤ 2
      decide
    · exact txo_ge _ _ _ _ _ _
/-- guarding asks nothing of memory and registers, nor of the numbers above 16 -/
theorem gdB_up {f f' : Nat → Int32} {g g' : Nat → Nat → Int32} (h2 : f' 2 = f 2) (h8 : g' 8 = g 8) (h10 : g' 10 = g 10) (h12 : g' 12 = g 12) : gdB f' g' = gdB f g := by
  funext a
  unfold gdB
  rw [h2]
  have : gdP f' g' a = gdP f g a := by funext m; unfold gdP; rw [h8, h10, h12]
  rw [this]
abbrev mR : Type := Int32 × Int32 × Nat × (Nat → Int32) × (Nat → Int32) × Int32
/-- the twin's numbers behind a run -/
def runf (f : Nat → Int32) (k : Nat) (pc t : Int32) : Nat → Int32 := va_up (va_up (va_up f 30 pc) 20 (nI k)) 19 t
def runF (f : Nat → Int32) (r : mR) : Nat → Int32 := if r.1 = 0 then va_up (runf f r.2.2.1 r.2.2.2.2.2 r.2.1) 21 (r.2.2.2.2.1 10) else runf f r.2.2.1 r.2.2.2.2.2 r.2.1
theorem gMR2 (g : Nat → Nat → Int32) (M R M' R' : Nat → Int32) : gMR (gMR g M R) M' R' = gMR g M' R' := by
  funext z
  unfold gMR va_up
  grind
theorem gMR_22 (g : Nat → Nat → Int32) (M R R' : Nat → Int32) : va_up (gMR g M R) 22 R' = gMR g M R' := bx_uu _ _ _ _
theorem mrun_home {P : Int32 → Bool} {m k : Nat} {M R : Nat → Int32} {pc : Int32} (h : pc = -4) : mrun P m k M R pc = (0, 0, k, M, R, pc) := by
  cases m <;> exact if_pos h
theorem mrun_empty {P : Int32 → Bool} {k : Nat} {M R : Nat → Int32} {pc : Int32} (h : ¬ pc = -4) : mrun P 0 k M R pc = (9, 0, k, M, R, pc) := if_neg h
theorem mrun_go {P : Int32 → Bool} {m k : Nat} {M R : Nat → Int32} {pc : Int32} (h : ¬ pc = -4) (h0 : (tstep P M R pc).1 = 0) : mrun P (m + 1) k M R pc = mrun P m (k + 1) (tstep P M R pc).2.1 (r0 (tstep P M R pc).2.2.1) (tstep P M R pc).2.2.2 := by
  show (if pc = -4 then _ else if _ then _ else _) = _
  rw [if_neg h, if_pos h0]
theorem mrun_trap {P : Int32 → Bool} {m k : Nat} {M R : Nat → Int32} {pc : Int32} (h : ¬ pc = -4) (h0 : ¬ (tstep P M R pc).1 = 0) : mrun P (m + 1) k M R pc = (8, (tstep P M R pc).1, k + 1, (tstep P M R pc).2.1, r0 (tstep P M R pc).2.2.1, (tstep P M R pc).2.2.2) := by
  show (if pc = -4 then _ else if _ then _ else _) = _
  rw [if_neg h, if_neg h0]
theorem runf2 (f : Nat → Int32) (k k' : Nat) (pc pc' t t' : Int32) : va_up (va_up (va_up (runf f k pc t) 20 (nI k')) 30 pc') 19 t' = runf f k' pc' t' := by
  funext z
  unfold runf va_up
  grind
set_option maxRecDepth 100000 in
set_option maxHeartbeats 4000000 in
theorem c_TM_runs (l : Launch) (G : eg_G) (h : Nat) (q : Nat → Nat) (f : Nat → Int32) (g : Nat → Nat → Int32) (s a b : Int32) (n : Nat) (hn : n ≤ 2000) (hse : f 2 = 0 ∨ f 2 = 1) (hmd : f 20 = 0) (htr : f 19 = 0) : Ct l G y_TM_runs 4 0 0 [.ref h, .int s, .int a, .int b, .int (nI n)] [TW G h q f g] (rF (some (.int (bI (decide ((mrun (gdB f g) n 0 (g 1) (rgS (g 22) a b) s).1 = 0))))) [TW G h q (runF f (mrun (gdB f g) n 0 (g 1) (rgS (g 22) a b) s)) (gMR g (mrun (gdB f g) n 0 (g 1) (rgS (g 22) a b) s).2.2.2.1 (mrun (gdB f g) n 0 (g 1) (rgS (g 22) a b) s).2.2.2.2.1)]) := by
  refine Ct.of cd_TM_runs (eg_catb rfl) (Nat.le_of_ble_eq_true rfl) ?_
  intro Γ hG
  have hR := hG.rm
  show Ex G Γ mu_TM_runs 0 [some (.ref h), some (.int s), some (.int a), some (.int b), some (.int (nI n)), none] [] [TW G h q f g] 0 0
  refine ex_k d_TM_runs_0 ?_
  refine ex_is d_TM_runs_1 (Nat.le_of_ble_eq_true rfl) ?_
  have L1 : ∀ j, j ≤ 32 → Ex G Γ mu_TM_runs 3 [some (.ref h), some (.int s), some (.int a), some (.int b), some (.int (nI n)), some (.int (nI j))] [] [TW G h q f (va_up g 22 (rgZ (g 22) j))] 0 0 := by
    refine eg_down 32 (fun j hj ih => ?_)
    refine ex_il d_TM_runs_3 rfl ?_
    refine ex_k d_TM_runs_5 ?_
    refine ex_icmp_ge d_TM_runs_7 (fun h7 => ?_) (fun h7 => ?_)
    · skip
      have h7 := le_n (a := 32) h7
      have hj4 : j = 32 := by omega
      subst hj4
      refine ex_al d_TM_runs_24 rfl ?_
      refine tg 0 fl_TM_54 d_TM_runs_25 rfl rfl ?_
      refine ex_k d_TM_runs_28 ?_
      refine ex_k d_TM_runs_29 ?_
      refine ts_22 0 d_TM_runs_31 rfl (ix_e (j := 1) (by decide)) ?_
      refine ex_al d_TM_runs_32 rfl ?_
      refine tg 0 fl_TM_54 d_TM_runs_33 rfl rfl ?_
      refine ex_k d_TM_runs_36 ?_
      refine ex_k d_TM_runs_37 ?_
      refine ts_22 0 d_TM_runs_40 rfl (ix_e (j := 2) (by decide)) ?_
      refine ex_al d_TM_runs_41 rfl ?_
      refine tg 0 fl_TM_54 d_TM_runs_42 rfl rfl ?_
      refine ex_k d_TM_runs_45 ?_
      refine ex_il d_TM_runs_47 rfl ?_
      refine ts_22 0 d_TM_runs_48 rfl (ix_e (j := 10) (by decide)) ?_
      refine ex_al d_TM_runs_49 rfl ?_
      refine tg 0 fl_TM_54 d_TM_runs_50 rfl rfl ?_
      refine ex_k d_TM_runs_53 ?_
      refine ex_il d_TM_runs_55 rfl ?_
      refine ts_22 0 d_TM_runs_56 rfl (ix_e (j := 11) (by decide)) ?_
      refine ex_al d_TM_runs_57 rfl ?_
      refine ex_il d_TM_runs_58 rfl ?_
      refine tp_30 0 wl_TM_191 d_TM_runs_59 rfl ?_
      have L2 : ∀ k, k ≤ n → ∀ (M R : Nat → Int32) (pc : Int32), mrun (gdB f g) (n - k) k M R pc = mrun (gdB f g) n 0 (g 1) (rgS (g 22) a b) s → Ex G Γ mu_TM_runs 62 [some (.ref h), some (.int s), some (.int a), some (.int b), some (.int (nI n)), none] [] [TW G h q (runf f k pc 0) (gMR g M R)] 0 0 := by
        refine eg_down n (fun k hk ih M R pc hr => ?_)
        refine ex_al d_TM_runs_62 rfl ?_
        refine tg 0 fl_TM_191 d_TM_runs_63 rfl rfl ?_
        refine ex_k d_TM_runs_66 ?_
        refine ex_icmp_eq d_TM_runs_68 (fun h68 => ?_) (fun h68 => ?_)
        · skip
          have h68 : pc = -4 := h68
          rw [mrun_home h68] at hr
          refine ex_al d_TM_runs_116 rfl ?_
          refine ex_al d_TM_runs_117 rfl ?_
          refine tg 0 fl_TM_54 d_TM_runs_118 rfl rfl ?_
          refine ex_k d_TM_runs_121 ?_
          refine tl_22 0 d_TM_runs_123 rfl (ix_e (j := 10) (by decide)) ?_
          refine tp_21 0 wl_TM_152 d_TM_runs_124 rfl ?_
          refine ex_k d_TM_runs_127 ?_
          exact ex_iret [TW G h q (va_up (runf f k pc 0) 21 (R 10)) (gMR g M R)] hG d_TM_runs_128 rfl rfl (by decide) (by decide) (eg_sub.of rfl) ⟨by rw [← hr]; rfl, by rw [← hr]; rfl⟩
        · skip
          have h68 : ¬ pc = -4 := h68
          refine ex_al d_TM_runs_71 rfl ?_
          refine tg 0 fl_TM_149 d_TM_runs_72 rfl rfl ?_
          refine ex_il d_TM_runs_75 rfl ?_
          refine ex_icmp_ne d_TM_runs_77 (fun h77 => ?_) (fun h77 => ?_)
          · skip
            have hlt : k < n := by
              have : ¬ k = n := fun z => h77 (show nI k = nI n by rw [z])
              omega
            refine ex_al d_TM_runs_82 rfl ?_
            refine ex_dup d_TM_runs_83 rfl ?_
            refine tg 0 fl_TM_149 d_TM_runs_84 rfl rfl ?_
            refine ex_k d_TM_runs_87 ?_
            refine ex_iadd d_TM_runs_88 ?_
            refine ex_eqT [.int (nI (k + 1)), .ref h] (by show [Value.int (nI k + 1), .ref h] = _; rw [nI_1]) ?_
            refine tp_20 0 wl_TM_149 d_TM_runs_89 rfl ?_
            have hst := c_TM_step l G h q (va_up (runf f k pc 0) 20 (nI (k + 1))) (gMR g M R) hse
            rw [show tstep (gdB (va_up (runf f k pc 0) 20 (nI (k + 1))) (gMR g M R)) ((gMR g M R) 1) ((gMR g M R) 22) ((va_up (runf f k pc 0) 20 (nI (k + 1))) 30) = tstep (gdB f g) M R pc from by rw [gdB_up (f := f) (g := g) rfl rfl rfl rfl]; rfl] at hst
            obtain ⟨t, ht⟩ : ∃ t, tstep (gdB f g) M R pc = t := ⟨_, rfl⟩
            rw [ht] at hst
            refine ex_al d_TM_runs_92 rfl ?_
            refine ex_al d_TM_runs_93 rfl ?_
            refine ex_cF [0] hR (hst) (eg_invV 0 d_TM_runs_94 cd_TM_step cx_TM_194 rfl rfl List.mem_cons_self rfl rfl) cd_TM_step rfl rfl (Nat.le_of_ble_eq_true rfl) (by decide) (by decide) (by decide) (by decide) rfl ?_
            refine tp_19 0 wl_TM_146 d_TM_runs_97 rfl ?_
            refine ex_al d_TM_runs_100 rfl ?_
            refine tg 0 fl_TM_54 d_TM_runs_101 rfl rfl ?_
            refine ex_k d_TM_runs_104 ?_
            refine ex_k d_TM_runs_105 ?_
            refine ts_22 0 d_TM_runs_106 rfl (ix_e (j := 0) (by decide)) ?_
            refine ex_al d_TM_runs_107 rfl ?_
            refine tg 0 fl_TM_146 d_TM_runs_108 rfl rfl ?_
            refine ex_if_le d_TM_runs_111 (fun h111 => ?_) (fun h111 => ?_)
            · skip
              have h111 : t.1 = 0 := i_cast h111 (by rw [← ht]; exact tstep_ge _ _ _ _)
              refine ex_eqS [TW G h q (runf f (k + 1) t.2.2.2 0) (gMR g t.2.1 (r0 t.2.2.1))] (by show [TW G h q (va_up (va_up (va_up (runf f k pc 0) 20 (nI (k + 1))) 30 t.2.2.2) 19 t.1) (va_up (gMR (gMR g M R) t.2.1 t.2.2.1) 22 _)] = _; rw [h111, runf2, gMR2, gMR_22]; rfl) ?_
              exact ih hlt _ _ _ (by rw [← hr, show n - k = (n - (k + 1)) + 1 by omega, mrun_go h68 (by rw [ht]; exact h111), ht])
            · skip
              have h111 : ¬ t.1 = 0 := fun z => h111 (show t.1 ≤ 0 by rw [z]; decide)
              rw [show n - k = (n - (k + 1)) + 1 by omega, mrun_trap h68 (by rw [ht]; exact h111), ht] at hr
              refine ex_eqS [TW G h q (runf f (k + 1) t.2.2.2 t.1) (gMR g t.2.1 (r0 t.2.2.1))] (by show [TW G h q (va_up (va_up (va_up (runf f k pc 0) 20 (nI (k + 1))) 30 t.2.2.2) 19 t.1) (va_up (gMR (gMR g M R) t.2.1 t.2.2.1) 22 _)] = _; rw [runf2, gMR2, gMR_22]; rfl) ?_
              refine ex_k d_TM_runs_114 ?_
              exact ex_iret [TW G h q (runf f (k + 1) t.2.2.2 t.1) (gMR g t.2.1 (r0 t.2.2.1))] hG d_TM_runs_115 rfl rfl (by decide) (by decide) (eg_sub.of rfl) ⟨by rw [← hr]; rfl, by rw [← hr]; rfl⟩
          · skip
            have h77 : k = n := (nI_eq (by omega) (by omega)).mp h77
            subst h77
            rw [Nat.sub_self, mrun_empty h68] at hr
            refine ex_k d_TM_runs_80 ?_
            exact ex_iret [TW G h q (runf f k pc 0) (gMR g M R)] hG d_TM_runs_81 rfl rfl (by decide) (by decide) (eg_sub.of rfl) ⟨by rw [← hr]; rfl, by rw [← hr]; rfl⟩
      refine ex_forget [true, true, true, true, true, false] ?_
      refine ex_eqS [TW G h q (runf f 0 s 0) (gMR g (g 1) (rgS (g 22) a b))] (by show [TW G h q (va_up f 30 s) (va_up (va_up (va_up (va_up (va_up g 22 _) 22 _) 22 _) 22 _) 22 _)] = _; rw [bx_uu, bx_uu, bx_uu, bx_uu, gMR_R, show runf f 0 s 0 = va_up f 30 s from by show va_up (va_up (va_up f 30 s) 20 0) 19 0 = _; rw [va_up_id (f := va_up f 30 s) (k := 20) hmd, va_up_id (f := va_up f 30 s) (k := 19) htr]]; rfl) ?_
      exact L2 0 (Nat.zero_le _) (g 1) (rgS (g 22) a b) s (by rw [Nat.sub_zero])
    · skip
      have hlt := lt_n (a := 32) h7
      refine ex_al d_TM_runs_10 rfl ?_
      refine tg 0 fl_TM_54 d_TM_runs_11 rfl rfl ?_
      refine ex_il d_TM_runs_14 rfl ?_
      refine ex_k d_TM_runs_16 ?_
      refine ts_22 0 d_TM_runs_17 rfl (ix_e hlt) ?_
      refine ex_eqS [TW G h q f (va_up g 22 (rgZ (g 22) (j + 1)))] (by show [TW G h q f (va_up (va_up g 22 _) 22 (upd (rgZ (g 22) j) j 0))] = _; rw [bx_uu, rgZ_s]) ?_
      refine ex_inc d_TM_runs_18 rfl ?_
      refine ex_goto d_TM_runs_21 ?_
      exact ih hlt
  exact ex_eqS [TW G h q f (va_up g 22 (rgZ (g 22) 0))] (by rw [rgZ_0, va_up_same]) (L1 0 (Nat.zero_le _))
