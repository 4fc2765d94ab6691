/-! the component: the best of a room, whether it is the best -/
theorem nL_min {a b : Nat} (ha : a < 2 ^ 63) (hb : b < 2 ^ 63) : (if nL b < nL a then nL b else nL a) = nL (if b < a then b else a) := by
  by_cases h : b < a
  · rw [if_pos h, if_pos ((nL_lt hb ha).mpr h)]
  · rw [if_neg h, if_neg (fun q => h ((nL_lt hb ha).mp q))]
theorem far_lt {a : Nat} (h : a < 2 ^ 63) : (nL a < 1125899906842624) ↔ a < FARc := by
  rw [← FARc_l]
  exact nL_lt h (by decide)
theorem cpN_le {T : Mi} {t r q : Nat} {how : Int32} (hpr : prOk T t) (hr : r < rn T t) : cpN T t how r q ≤ 400000 := by
  have h1 := (prN_le hpr hr (q := q)).1
  have h2 := mv_le (T := T) (t := t) r q
  have h3 := cnt_le q.testBit 10
  unfold cpN
  split <;> omega
section Co28
variable {w : Wd} {l : Launch} {K : Ly} {S : Sh} {I T : Mi} {J : Ml}
theorem kX1_best (hR : CoR K S I T) (hI : Tok T) (hF : FrOk T) {t r s : Nat} {how : Int32} (ht : t < tn T) (hr : r < rn T t) (hs : s < 2 ^ pn T) (hbe : bedsOk T t) (hpr : prOk T t) {D : Nat → Nat} (hD : ∀ u, D u ≤ FARc) (hJ : ∀ u, u < 1024 → nd u s = 0 → J (73 + (r + 1)) u = nL (D u)) : Ct w l yX1_best cX1_best 10 (some .long) 3 0 0 [.ref 0, .ref (ta K t), .int (nI r), .int (nI s), .int how] S I J (Qe (some (.long (nL (fA (gS (fun q => mbB T (10 * t + r) q (pn T)) (cpN T t how r) D s) s (D s) 10)))) S I J) := by
  have hp10 := tk_p2 hI
  have hr10 := tk_r2 hI (show t < 6 by have := tk_t2 hI; omega)
  have hs10 : s < 1024 := Nat.lt_of_lt_of_le hs (Nat.pow_le_pow_right (by decide) hp10)
  have hC := cr_S hR
  have hg := hC.2.2.2.2.1 (r + 1) (by omega)
  have hss : nd s s = 0 := sub_nd (fun i h => h)
  have hFc : FARc = 1125899906842624 := rfl
  have hvA : ∀ n, n ≤ 10 → fA (gS (fun q => mbB T (10 * t + r) q (pn T)) (cpN T t how r) D s) s (D s) n ≤ FARc := fun n hn => fA_inv (P := fun v => v ≤ FARc) (fun _ _ _ _ _ _ q => Nat.le_trans gS_le q) (hD s) n hn
  refine Ct.of [some _, some _, some _, some _, some _, none, none, none, none, none] rfl (Nat.le_of_ble_eq_true rfl) (by decide) ?_
  intro κ hκ C
  subst hκ
  have ha : ∀ (j a : Nat), a + j = 10 → XX w κ (Zr w κ (Qe (some (.long (nL (fA (gS (fun q => mbB T (10 * t + r) q (pn T)) (cpN T t how r) D s) s (D s) 10)))) S I J)) 0 0 15 [some (.ref 0), some (.ref (ta K t)), some (.int (nI r)), some (.int (nI s)), some (.int how), some (.long (nL (fA (gS (fun q => mbB T (10 * t + r) q (pn T)) (cpN T t how r) D s) s (D s) a))), none, some (.int (nI a)), none, none] [] S I J := by
    intro j
    induction j with
    | zero =>
      intro a e
      have e : a = 10 := e
      subst e
      refine x_iload C dX1_best_15 17 rfl rfl ?_
      refine x_bip (j := 10) C dX1_best_17 19 rfl (by decide) ?_
      refine x_icmpgeN C dX1_best_19 22 146 rfl (by decide) (by omega) (by omega) (fun _ => ?_) (fun h19 => absurd h19 (by decide))
      refine x_lload C dX1_best_146 148 rfl rfl ?_
      exact x_lret C dX1_best_148 (Nat.le_refl _) (Nat.le_refl _) ⟨rfl, rfl, rfl, rfl⟩
    | succ j ih =>
      intro a e
      have hva := hvA a (by omega)
      have hb : s.testBit a = true → ∀ (i k : Nat), k + i = 10 - a → XX w κ (Zr w κ (Qe (some (.long (nL (fA (gS (fun q => mbB T (10 * t + r) q (pn T)) (cpN T t how r) D s) s (D s) 10)))) S I J)) 0 0 38 [some (.ref 0), some (.ref (ta K t)), some (.int (nI r)), some (.int (nI s)), some (.int how), some (.long (nL (fB (gS (fun q => mbB T (10 * t + r) q (pn T)) (cpN T t how r) D s) a (fA (gS (fun q => mbB T (10 * t + r) q (pn T)) (cpN T t how r) D s) s (D s) a) k))), none, some (.int (nI a)), some (.int (nI (a + k))), none] [] S I J := by
        intro hbit i
        induction i with
        | zero =>
          intro k e2
          refine x_iload C dX1_best_38 40 rfl rfl ?_
          refine x_bip (j := 10) C dX1_best_40 42 rfl (by decide) ?_
          refine x_icmpgeN C dX1_best_42 45 140 rfl (by decide) (by omega) (by omega) (fun _ => ?_) (fun h42 => absurd h42 (by omega))
          refine x_iinc C dX1_best_140 143 rfl [_, _, _, _, _, _, _, _, _, _] (nI_inc _) (by decide) rfl rfl rfl ?_
          refine x_goto C dX1_best_143 15 (by decide) ?_
          refine x_ls [some _, some _, some _, some _, some _, some _, none, some _, none, none] ⟨rfl, rfl, rfl, rfl, rfl, rfl, rfl, trivial⟩ ?_
          have := ih (a + 1) (by omega)
          have hfa : fA (gS (fun q => mbB T (10 * t + r) q (pn T)) (cpN T t how r) D s) s (D s) (a + 1) = fB (gS (fun q => mbB T (10 * t + r) q (pn T)) (cpN T t how r) D s) a (fA (gS (fun q => mbB T (10 * t + r) q (pn T)) (cpN T t how r) D s) s (D s) a) (10 - a) := by rw [fA, if_pos hbit]
          rw [hfa] at this
          rw [show k = 10 - a by omega]
          exact this
        | succ i ihb =>
          intro k e2
          have hvb : fB (gS (fun q => mbB T (10 * t + r) q (pn T)) (cpN T t how r) D s) a (fA (gS (fun q => mbB T (10 * t + r) q (pn T)) (cpN T t how r) D s) s (D s) a) k ≤ FARc := fB_inv (P := fun v => v ≤ FARc) (m := 10) (fun _ _ _ _ q => Nat.le_trans gS_le q) hva k (by omega)
          have hnx := ihb (k + 1) (by omega)
          rw [fB] at hnx
          have hql := pair_lt (show a < 10 by omega) (show a + k < 10 by omega)
          generalize hq : 2 ^ a ||| 2 ^ (a + k) = q at *
          generalize hv : fB (gS (fun q => mbB T (10 * t + r) q (pn T)) (cpN T t how r) D s) a (fA (gS (fun q => mbB T (10 * t + r) q (pn T)) (cpN T t how r) D s) s (D s) a) k = v at *
          refine x_iload C dX1_best_38 40 rfl rfl ?_
          refine x_bip (j := 10) C dX1_best_40 42 rfl (by decide) ?_
          refine x_icmpgeN C dX1_best_42 45 140 rfl (by decide) (by omega) (by omega) (fun h42 => absurd h42 (by omega)) (fun _ => ?_)
          refine x_ic (j := 1) C dX1_best_45 46 rfl ?_
          refine x_iload C dX1_best_46 48 rfl rfl ?_
          refine x_ishl C dX1_best_48 49 rfl (nI_shl1' _ (by omega)) ?_
          refine x_ic (j := 1) C dX1_best_49 50 rfl ?_
          refine x_iload C dX1_best_50 52 rfl rfl ?_
          refine x_ishl C dX1_best_52 53 rfl (nI_shl1' _ (by omega)) ?_
          refine x_ior C dX1_best_53 54 rfl ((nI_or _ _).trans (congrArg nI hq)) ?_
          refine x_istore C dX1_best_54 56 rfl [_, _, _, _, _, _, _, _, _, _] (by decide) rfl rfl ?_
          refine x_iload C dX1_best_56 58 rfl rfl ?_
          refine x_iload_n C dX1_best_58 59 rfl rfl ?_
          refine x_icm C dX1_best_59 60 rfl ?_
          refine x_ixor C dX1_best_60 61 rfl rfl ?_
          refine x_iand C dX1_best_61 62 rfl (nI_nd _ _) ?_
          refine x_ifneN C dX1_best_62 65 134 rfl (by decide) (by have : nd q s < 2 ^ 10 := nd_lt hql; omega) (fun h62 => ?_) (fun h62 => ?_)
          · have hsk : gS (fun q => mbB T (10 * t + r) q (pn T)) (cpN T t how r) D s q v = v := by { unfold gS; rw [if_neg (fun z => h62 z.1)] }
            refine x_iinc C dX1_best_134 137 rfl [_, _, _, _, _, _, _, _, _, _] (nI_inc _) (by decide) rfl rfl rfl ?_
            refine x_goto C dX1_best_137 38 (by decide) ?_
            refine x_ls [some _, some _, some _, some _, some _, some _, none, some _, some _, none] ⟨rfl, rfl, rfl, rfl, rfl, rfl, rfl, rfl, trivial⟩ ?_
            rw [hsk] at hnx
            exact hnx
          · have hq2 : q < 2 ^ pn T := sub_lt2 h62 hs
            have hxl : nd s q < 1024 := nd_lt (n := 10) hs10
            have hDq := hD (nd s q)
            have hcp := cpN_le (how := how) (q := q) hpr hr
            have hsub : nd (nd s q) s = 0 := nd_l s q
            refine x_aloadr_n C dX1_best_65 66 rfl rfl ?_
            refine x_getr C fl_X1_67 (Or.inr ⟨_, rfl⟩) dX1_best_66 69 rfl hC.1 (coR_worths hC) ?_
            refine x_iload_n C dX1_best_69 70 rfl rfl ?_
            refine x_ic (j := 1) C dX1_best_70 71 rfl ?_
            refine x_iadd C dX1_best_71 72 rfl (nI_add _ _) ?_
            refine x_aaldr (t := 10) C dX1_best_72 73 rfl (coA_worths hC) (by decide) (coN_worths hC) rfl (by omega) (by decide) hg.1 ?_
            refine x_iload_n C dX1_best_73 74 rfl rfl ?_
            refine x_iload C dX1_best_74 76 rfl rfl ?_
            refine x_ixor C dX1_best_76 77 rfl ((nI_xor _ _).trans (congrArg nI (xor_nd h62))) ?_
            refine x_lald C dX1_best_77 78 rfl hg.2.1 hg.2.2 rfl (by omega) (by decide) (hJ _ hxl hsub) ?_
            refine x_ldc2 C dX1_best_78 81 rfl q539 ?_
            refine x_lcmp C dX1_best_81 82 rfl ?_
            refine x_ifgeC C dX1_best_82 85 134 rfl (by decide) (fun h82 => ?_) (fun h82 => ?_)
            · have hsk : gS (fun q => mbB T (10 * t + r) q (pn T)) (cpN T t how r) D s q v = v := by { unfold gS; rw [if_neg (fun z => h82 ((far_lt (by omega)).mpr z.2.1))] }
              refine x_iinc C dX1_best_134 137 rfl [_, _, _, _, _, _, _, _, _, _] (nI_inc _) (by decide) rfl rfl rfl ?_
              refine x_goto C dX1_best_137 38 (by decide) ?_
              refine x_ls [some _, some _, some _, some _, some _, some _, none, some _, some _, none] ⟨rfl, rfl, rfl, rfl, rfl, rfl, rfl, rfl, trivial⟩ ?_
              rw [hsk] at hnx
              exact hnx
            · have e82 : D (nd s q) < FARc := (far_lt (by omega)).mp h82
              refine x_aloadr_n C dX1_best_85 86 rfl rfl ?_
              refine x_aloadr_n C dX1_best_86 87 rfl rfl ?_
              refine x_getr C fl_X1_187 (Or.inr ⟨_, rfl⟩) dX1_best_87 90 rfl (ct_T hR ht) (ct_rooms hR ht) ?_
              refine x_iload_n C dX1_best_90 91 rfl rfl ?_
              refine x_aaldr (t := 6) C dX1_best_91 92 rfl (ct_roomsA hR ht) (by decide) (ct_roomsN hR ht) rfl (by omega) (by decide) (cm_elt hR ht hr) ?_
              refine x_iload C dX1_best_92 94 rfl rfl ?_
              refine x_callV C lk_X1_242 dX1_best_94 97 rfl [_, _] [] rfl rfl hC.1 (Nat.le_of_ble_eq_true rfl) (by decide) (Nat.le_refl _) (Nat.le_refl _) (kX1_fits hR hI hF ht hr hq2 hbe) ?_
              rintro _ _ _ _ ⟨rfl, rfl, rfl, rfl⟩
              refine x_ifneZ C dX1_best_97 100 103 rfl (by decide) (fun h97 => ?_) (fun h97 => ?_)
              · refine x_lload C dX1_best_103 105 rfl rfl ?_
                refine x_aloadr_n C dX1_best_105 106 rfl rfl ?_
                refine x_aloadr_n C dX1_best_106 107 rfl rfl ?_
                refine x_iload_n C dX1_best_107 108 rfl rfl ?_
                refine x_iload C dX1_best_108 110 rfl rfl ?_
                refine x_iload C dX1_best_110 112 rfl rfl ?_
                refine x_callV C lk_X1_246 dX1_best_112 115 rfl [_, _, _, _] [_] rfl rfl hC.1 (Nat.le_of_ble_eq_true rfl) (by decide) (Nat.le_refl _) (Nat.le_refl _) (kX1_price hR hI ht hr hql hpr) ?_
                rintro _ _ _ _ ⟨rfl, rfl, rfl, rfl⟩
                refine x_aloadr_n C dX1_best_115 116 rfl rfl ?_
                refine x_getr C fl_X1_67 (Or.inr ⟨_, rfl⟩) dX1_best_116 119 rfl hC.1 (coR_worths hC) ?_
                refine x_iload_n C dX1_best_119 120 rfl rfl ?_
                refine x_ic (j := 1) C dX1_best_120 121 rfl ?_
                refine x_iadd C dX1_best_121 122 rfl (nI_add _ _) ?_
                refine x_aaldr (t := 10) C dX1_best_122 123 rfl (coA_worths hC) (by decide) (coN_worths hC) rfl (by omega) (by decide) hg.1 ?_
                refine x_iload_n C dX1_best_123 124 rfl rfl ?_
                refine x_iload C dX1_best_124 126 rfl rfl ?_
                refine x_ixor C dX1_best_126 127 rfl ((nI_xor _ _).trans (congrArg nI (xor_nd h62))) ?_
                refine x_lald C dX1_best_127 128 rfl hg.2.1 hg.2.2 rfl (by omega) (by decide) (hJ _ hxl hsub) ?_
                refine x_ladd C dX1_best_128 129 rfl (nL_add _ _) ?_
                refine x_mminL C q554 q555 q556 dX1_best_129 132 rfl (Nat.le_of_ble_eq_true rfl) (by decide) (Nat.zero_le _) (Nat.zero_le _) ?_
                rw [nL_min (by omega) (by omega)]
                refine x_lstore C dX1_best_132 134 rfl [_, _, _, _, _, _, _, _, _, _] (by decide) rfl rfl ?_
                refine x_iinc C dX1_best_134 137 rfl [_, _, _, _, _, _, _, _, _, _] (nI_inc _) (by decide) rfl rfl rfl ?_
                refine x_goto C dX1_best_137 38 (by decide) ?_
                refine x_ls [some _, some _, some _, some _, some _, some _, none, some _, some _, none] ⟨rfl, rfl, rfl, rfl, rfl, rfl, rfl, rfl, trivial⟩ ?_
                unfold gS at hnx
                rw [if_pos ⟨h62, e82, h97⟩] at hnx
                exact hnx
              · have hsk : gS (fun q => mbB T (10 * t + r) q (pn T)) (cpN T t how r) D s q v = v := by { unfold gS; rw [if_neg (fun z => Bool.noConfusion (h97.symm.trans z.2.2))] }
                refine x_goto C dX1_best_100 134 (by decide) ?_
                refine x_iinc C dX1_best_134 137 rfl [_, _, _, _, _, _, _, _, _, _] (nI_inc _) (by decide) rfl rfl rfl ?_
                refine x_goto C dX1_best_137 38 (by decide) ?_
                refine x_ls [some _, some _, some _, some _, some _, some _, none, some _, some _, none] ⟨rfl, rfl, rfl, rfl, rfl, rfl, rfl, rfl, trivial⟩ ?_
                rw [hsk] at hnx
                exact hnx
      refine x_iload C dX1_best_15 17 rfl rfl ?_
      refine x_bip (j := 10) C dX1_best_17 19 rfl (by decide) ?_
      refine x_icmpgeN C dX1_best_19 22 146 rfl (by decide) (by omega) (by omega) (fun h19 => absurd h19 (by omega)) (fun _ => ?_)
      refine x_iload_n C dX1_best_22 23 rfl rfl ?_
      refine x_iload C dX1_best_23 25 rfl rfl ?_
      refine x_ishr C dX1_best_25 26 rfl (nI_shrp _ _ (by omega) (by omega)) ?_
      refine x_ic (j := 1) C dX1_best_26 27 rfl ?_
      refine x_iand C dX1_best_27 28 rfl (nI_bit _ _) ?_
      refine x_ifneN C dX1_best_28 31 34 rfl (by decide) (by have := bit_lt s a; omega) (fun h28 => ?_) (fun h28 => ?_)
      · have hbit : s.testBit a = true := by { rw [← bit_1]; have := bit_lt s a; omega }
        refine x_iload C dX1_best_34 36 rfl rfl ?_
        refine x_istore C dX1_best_36 38 rfl [_, _, _, _, _, _, _, _, _, _] (by decide) rfl rfl ?_
        exact hb hbit (10 - a) 0 (Nat.zero_add _)
      · have hbit := (bit_0 _ _).mp h28
        refine x_goto C dX1_best_31 140 (by decide) ?_
        refine x_iinc C dX1_best_140 143 rfl [_, _, _, _, _, _, _, _, _, _] (nI_inc _) (by decide) rfl rfl rfl ?_
        refine x_goto C dX1_best_143 15 (by decide) ?_
        have := ih (a + 1) (by omega)
        have hfa : fA (gS (fun q => mbB T (10 * t + r) q (pn T)) (cpN T t how r) D s) s (D s) (a + 1) = fA (gS (fun q => mbB T (10 * t + r) q (pn T)) (cpN T t how r) D s) s (D s) a := by rw [fA, if_neg (by rw [hbit]; decide)]
        rw [hfa] at this
        exact this
  refine x_aloadr_n C dX1_best_0 1 rfl rfl ?_
  refine x_getr C fl_X1_67 (Or.inr ⟨_, rfl⟩) dX1_best_1 4 rfl hC.1 (coR_worths hC) ?_
  refine x_iload_n C dX1_best_4 5 rfl rfl ?_
  refine x_ic (j := 1) C dX1_best_5 6 rfl ?_
  refine x_iadd C dX1_best_6 7 rfl (nI_add _ _) ?_
  refine x_aaldr (t := 10) C dX1_best_7 8 rfl (coA_worths hC) (by decide) (coN_worths hC) rfl (by omega) (by decide) hg.1 ?_
  refine x_iload_n C dX1_best_8 9 rfl rfl ?_
  refine x_lald C dX1_best_9 10 rfl hg.2.1 hg.2.2 rfl (by omega) (by decide) (hJ s hs10 hss) ?_
  refine x_lstore C dX1_best_10 12 rfl [_, _, _, _, _, _, _, _, _, _] (by decide) rfl rfl ?_
  refine x_ic (j := 0) C dX1_best_12 13 rfl ?_
  refine x_istore C dX1_best_13 15 rfl [_, _, _, _, _, _, _, _, _, _] (by decide) rfl rfl ?_
  exact ha 10 0 rfl
theorem kX1_isBest (hR : CoR K S I T) (hI : Tok T) (hF : FrOk T) {t r s q : Nat} {how : Int32} (ht : t < tn T) (hr : r < rn T t) (hs : s < 2 ^ pn T) (hq : q < 1024) (hbe : bedsOk T t) (hpr : prOk T t) {D D0 : Nat → Nat} (hD : ∀ u, D u ≤ FARc) (hJ : ∀ u, u < 1024 → nd u s = 0 → J (73 + (r + 1)) u = nL (D u)) (hD0 : D0 s ≤ FARc) (hJ0 : J (73 + r) s = nL (D0 s)) : Ct w l yX1_isBest cX1_isBest 6 (some .boolean) 3 0 0 [.ref 0, .ref (ta K t), .int (nI r), .int (nI s), .int (nI q), .int how] S I J (Qe (some (.int (bz (decide (nd q s = 0) && decide (D (nd s q) < FARc) && mbB T (10 * t + r) q (pn T) && decide (cpN T t how r q + D (nd s q) = D0 s))))) S I J) := by
  have hp10 := tk_p2 hI
  have hr10 := tk_r2 hI (show t < 6 by have := tk_t2 hI; omega)
  have hs10 : s < 1024 := Nat.lt_of_lt_of_le hs (Nat.pow_le_pow_right (by decide) hp10)
  have hC := cr_S hR
  have hg := hC.2.2.2.2.1 (r + 1) (by omega)
  have hg0 := hC.2.2.2.2.1 r (by omega)
  have hFc : FARc = 1125899906842624 := rfl
  have hxl : nd s q < 1024 := nd_lt (n := 10) hs10
  have hDq := hD (nd s q)
  have hcp := cpN_le (how := how) (q := q) hpr hr
  have hnl : nd q s < 2 ^ 10 := nd_lt hq
  refine Ct.of [some _, some _, some _, some _, some _, some _] rfl (Nat.le_of_ble_eq_true rfl) (by decide) ?_
  intro κ hκ C
  subst hκ
  refine x_iload C dX1_isBest_0 2 rfl rfl ?_
  refine x_iload_n C dX1_isBest_2 3 rfl rfl ?_
  refine x_icm C dX1_isBest_3 4 rfl ?_
  refine x_ixor C dX1_isBest_4 5 rfl rfl ?_
  refine x_iand C dX1_isBest_5 6 rfl (nI_nd _ _) ?_
  refine x_ifneN C dX1_isBest_6 9 84 rfl (by decide) (by omega) (fun h6 => ?_) (fun h6 => ?_)
  · refine x_ic (j := 0) C dX1_isBest_84 85 rfl ?_
    exact x_zret C dX1_isBest_85 (Nat.le_refl _) (Nat.le_refl _) rfl (Qz_of (by simp [bzt, bzf, h6]))
  · have hq2 : q < 2 ^ pn T := sub_lt2 h6 hs
    refine x_aloadr_n C dX1_isBest_9 10 rfl rfl ?_
    refine x_getr C fl_X1_67 (Or.inr ⟨_, rfl⟩) dX1_isBest_10 13 rfl hC.1 (coR_worths hC) ?_
    refine x_iload_n C dX1_isBest_13 14 rfl rfl ?_
    refine x_ic (j := 1) C dX1_isBest_14 15 rfl ?_
    refine x_iadd C dX1_isBest_15 16 rfl (nI_add _ _) ?_
    refine x_aaldr (t := 10) C dX1_isBest_16 17 rfl (coA_worths hC) (by decide) (coN_worths hC) rfl (by omega) (by decide) hg.1 ?_
    refine x_iload_n C dX1_isBest_17 18 rfl rfl ?_
    refine x_iload C dX1_isBest_18 20 rfl rfl ?_
    refine x_ixor C dX1_isBest_20 21 rfl ((nI_xor _ _).trans (congrArg nI (xor_nd h6))) ?_
    refine x_lald C dX1_isBest_21 22 rfl hg.2.1 hg.2.2 rfl (by omega) (by decide) (hJ _ hxl (nd_l s q)) ?_
    refine x_ldc2 C dX1_isBest_22 25 rfl q539 ?_
    refine x_lcmp C dX1_isBest_25 26 rfl ?_
    refine x_ifgeC C dX1_isBest_26 29 84 rfl (by decide) (fun h26 => ?_) (fun h26 => ?_)
    · have e26 : ¬ D (nd s q) < FARc := fun z => h26 ((far_lt (by omega)).mpr z)
      refine x_ic (j := 0) C dX1_isBest_84 85 rfl ?_
      exact x_zret C dX1_isBest_85 (Nat.le_refl _) (Nat.le_refl _) rfl (Qz_of (by simp only [h6, e26, decide_true, decide_false, Bool.and_false, Bool.false_and, Bool.and_true, Bool.true_and, bzt, bzf]))
    · have e26 : D (nd s q) < FARc := (far_lt (by omega)).mp h26
      refine x_aloadr_n C dX1_isBest_29 30 rfl rfl ?_
      refine x_aloadr_n C dX1_isBest_30 31 rfl rfl ?_
      refine x_getr C fl_X1_187 (Or.inr ⟨_, rfl⟩) dX1_isBest_31 34 rfl (ct_T hR ht) (ct_rooms hR ht) ?_
      refine x_iload_n C dX1_isBest_34 35 rfl rfl ?_
      refine x_aaldr (t := 6) C dX1_isBest_35 36 rfl (ct_roomsA hR ht) (by decide) (ct_roomsN hR ht) rfl (by omega) (by decide) (cm_elt hR ht hr) ?_
      refine x_iload C dX1_isBest_36 38 rfl rfl ?_
      refine x_callV C lk_X1_242 dX1_isBest_38 41 rfl [_, _] [] rfl rfl hC.1 (Nat.le_of_ble_eq_true rfl) (by decide) (Nat.le_refl _) (Nat.le_refl _) (kX1_fits hR hI hF ht hr hq2 hbe) ?_
      rintro _ _ _ _ ⟨rfl, rfl, rfl, rfl⟩
      refine x_ifeqZ C dX1_isBest_41 44 84 rfl (by decide) (fun h41 => ?_) (fun h41 => ?_)
      · refine x_ic (j := 0) C dX1_isBest_84 85 rfl ?_
        exact x_zret C dX1_isBest_85 (Nat.le_refl _) (Nat.le_refl _) rfl (Qz_of (by simp only [h6, e26, h41, decide_true, decide_false, Bool.and_false, Bool.false_and, Bool.and_true, Bool.true_and, bzt, bzf]))
      · refine x_aloadr_n C dX1_isBest_44 45 rfl rfl ?_
        refine x_aloadr_n C dX1_isBest_45 46 rfl rfl ?_
        refine x_iload_n C dX1_isBest_46 47 rfl rfl ?_
        refine x_iload C dX1_isBest_47 49 rfl rfl ?_
        refine x_iload C dX1_isBest_49 51 rfl rfl ?_
        refine x_callV C lk_X1_246 dX1_isBest_51 54 rfl [_, _, _, _] [] rfl rfl hC.1 (Nat.le_of_ble_eq_true rfl) (by decide) (Nat.le_refl _) (Nat.le_refl _) (kX1_price hR hI ht hr hq hpr) ?_
        rintro _ _ _ _ ⟨rfl, rfl, rfl, rfl⟩
        refine x_aloadr_n C dX1_isBest_54 55 rfl rfl ?_
        refine x_getr C fl_X1_67 (Or.inr ⟨_, rfl⟩) dX1_isBest_55 58 rfl hC.1 (coR_worths hC) ?_
        refine x_iload_n C dX1_isBest_58 59 rfl rfl ?_
        refine x_ic (j := 1) C dX1_isBest_59 60 rfl ?_
        refine x_iadd C dX1_isBest_60 61 rfl (nI_add _ _) ?_
        refine x_aaldr (t := 10) C dX1_isBest_61 62 rfl (coA_worths hC) (by decide) (coN_worths hC) rfl (by omega) (by decide) hg.1 ?_
        refine x_iload_n C dX1_isBest_62 63 rfl rfl ?_
        refine x_iload C dX1_isBest_63 65 rfl rfl ?_
        refine x_ixor C dX1_isBest_65 66 rfl ((nI_xor _ _).trans (congrArg nI (xor_nd h6))) ?_
        refine x_lald C dX1_isBest_66 67 rfl hg.2.1 hg.2.2 rfl (by omega) (by decide) (hJ _ hxl (nd_l s q)) ?_
        refine x_ladd C dX1_isBest_67 68 rfl (nL_add _ _) ?_
        refine x_aloadr_n C dX1_isBest_68 69 rfl rfl ?_
        refine x_getr C fl_X1_67 (Or.inr ⟨_, rfl⟩) dX1_isBest_69 72 rfl hC.1 (coR_worths hC) ?_
        refine x_iload_n C dX1_isBest_72 73 rfl rfl ?_
        refine x_aaldr (t := 10) C dX1_isBest_73 74 rfl (coA_worths hC) (by decide) (coN_worths hC) rfl (by omega) (by decide) hg0.1 ?_
        refine x_iload_n C dX1_isBest_74 75 rfl rfl ?_
        refine x_lald C dX1_isBest_75 76 rfl hg0.2.1 hg0.2.2 rfl (by omega) (by decide) hJ0 ?_
        refine x_lcmp C dX1_isBest_76 77 rfl ?_
        refine x_ifneC C dX1_isBest_77 80 84 rfl (by decide) (fun h77 => ?_) (fun h77 => ?_)
        · have e77 : ¬ cpN T t how r q + D (nd s q) = D0 s := fun z => h77 (by rw [z])
          refine x_ic (j := 0) C dX1_isBest_84 85 rfl ?_
          exact x_zret C dX1_isBest_85 (Nat.le_refl _) (Nat.le_refl _) rfl (Qz_of (by simp only [h6, e26, h41, e77, decide_true, decide_false, Bool.and_false, Bool.false_and, Bool.and_true, Bool.true_and, bzt, bzf]))
        · have e77 := eq_true ((nL_eq (by omega) (by omega)).mp h77)
          refine x_ic (j := 1) C dX1_isBest_80 81 rfl ?_
          refine x_goto C dX1_isBest_81 85 (by decide) ?_
          exact x_zret C dX1_isBest_85 (Nat.le_refl _) (Nat.le_refl _) rfl (Qz_of (by simp only [h6, e26, h41, e77, decide_true, decide_false, Bool.and_false, Bool.false_and, Bool.and_true, Bool.true_and, bzt, bzf]))
end Co28
