/-! the component: trips -/
/-- the component's memory of a trip -/
def cM (I : Mi) (x : TS) : Mi := fun b i => if b = 0 then (if i = 35 then x.1 else if i = 36 then x.2.1 else if i = 37 then x.2.2.1 else if i = 38 then x.2.2.2.1 else I b i) else if b = 471 then x.2.2.2.2.1 i else if b = 472 then x.2.2.2.2.2.1 i else if b = 469 then x.2.2.2.2.2.2.1 i else if b = 470 then x.2.2.2.2.2.2.2 i else I b i
section
variable (I : Mi) (a b c d : Int32) (e f g h : Nat → Int32) (v : Int32) (i : Nat)
theorem c35 : sto (cM I (a, b, c, d, e, f, g, h)) 0 35 v = cM I (v, b, c, d, e, f, g, h) := by
  funext x j; rw [sto_at]; unfold cM; by_cases hx : x = 0 <;> by_cases hj : j = 35 <;> simp [hx, hj]
theorem c36 : sto (cM I (a, b, c, d, e, f, g, h)) 0 36 v = cM I (a, v, c, d, e, f, g, h) := by
  funext x j; rw [sto_at]; unfold cM; by_cases hx : x = 0 <;> by_cases hj : j = 36 <;> simp [hx, hj]
theorem c37 : sto (cM I (a, b, c, d, e, f, g, h)) 0 37 v = cM I (a, b, v, d, e, f, g, h) := by
  funext x j; rw [sto_at]; unfold cM; by_cases hx : x = 0 <;> by_cases hj : j = 37 <;> simp [hx, hj]
theorem c38 : sto (cM I (a, b, c, d, e, f, g, h)) 0 38 v = cM I (a, b, c, v, e, f, g, h) := by
  funext x j; rw [sto_at]; unfold cM; by_cases hx : x = 0 <;> by_cases hj : j = 38 <;> simp [hx, hj]
theorem c471 : sto (cM I (a, b, c, d, e, f, g, h)) 471 i v = cM I (a, b, c, d, va_up e i v, f, g, h) := by
  funext x j; rw [sto_at]; unfold cM va_up; by_cases hx : x = 471 <;> by_cases hj : j = i <;> simp [hx, hj]
theorem c472 : sto (cM I (a, b, c, d, e, f, g, h)) 472 i v = cM I (a, b, c, d, e, va_up f i v, g, h) := by
  funext x j; rw [sto_at]; unfold cM va_up; by_cases hx : x = 472 <;> by_cases hj : j = i <;> simp [hx, hj]
theorem c469 : sto (cM I (a, b, c, d, e, f, g, h)) 469 i v = cM I (a, b, c, d, e, f, va_up g i v, h) := by
  funext x j; rw [sto_at]; unfold cM va_up; by_cases hx : x = 469 <;> by_cases hj : j = i <;> simp [hx, hj]
theorem c470 : sto (cM I (a, b, c, d, e, f, g, h)) 470 i v = cM I (a, b, c, d, e, f, g, va_up h i v) := by
  funext x j; rw [sto_at]; unfold cM va_up; by_cases hx : x = 470 <;> by_cases hj : j = i <;> simp [hx, hj]
end
theorem cM_n (I : Mi) (x : TS) {b : Nat} (h : b ≠ 0 ∧ b ≠ 469 ∧ b ≠ 470 ∧ b ≠ 471 ∧ b ≠ 472) : cM I x b = I b := by
  funext i; unfold cM; simp [h.1, h.2.1, h.2.2.1, h.2.2.2.1, h.2.2.2.2]
theorem cM_0 (I : Mi) (x : TS) {i : Nat} (h : ¬ (35 ≤ i ∧ i ≤ 38)) : cM I x 0 i = I 0 i := by
  unfold cM
  rw [if_pos rfl, if_neg (by omega), if_neg (by omega), if_neg (by omega), if_neg (by omega)]
theorem cM_self (I : Mi) : cM I (I 0 35, I 0 36, I 0 37, I 0 38, I 471, I 472, I 469, I 470) = I := by
  funext b i
  unfold cM
  by_cases h : b = 0
  · subst h
    by_cases h1 : i = 35
    · subst h1; rfl
    · by_cases h2 : i = 36
      · subst h2; rfl
      · by_cases h3 : i = 37
        · subst h3; rfl
        · by_cases h4 : i = 38
          · subst h4; rfl
          · simp [h1, h2, h3, h4]
  · by_cases h1 : b = 471
    · subst h1; rfl
    · by_cases h2 : b = 472
      · subst h2; rfl
      · by_cases h3 : b = 469
        · subst h3; rfl
        · by_cases h4 : b = 470
          · subst h4; rfl
          · simp [h, h1, h2, h3, h4]
/-- ways and sights, as the twin has them -/
def TrR (I : Mi) (wy op sh st : Nat → Int32) : Prop := (∀ i j, i < 7 → j < 7 → I (462 + i) j = wy (7 * i + j)) ∧ ∀ i, i < 7 → I 458 i = op i ∧ I 459 i = sh i ∧ I 460 i = st i
def anyB (P : Nat → Bool) : Nat → Bool
  | 0 => false
  | n + 1 => anyB P n || P n
theorem anyB_c {P Q : Nat → Bool} : ∀ {n : Nat}, (∀ i, i < n → P i = Q i) → anyB P n = anyB Q n
  | 0, _ => rfl
  | n + 1, h => by rw [anyB, anyB, anyB_c (fun i hi => h i (by omega)), h n (by omega)]
/-- whether it is better -/
def btB (n en dr : Int32) (x : TS) : Bool := if n = x.1 then (if en = x.2.1 then decide (dr < x.2.2.1) else decide (en < x.2.1)) else decide (x.1 < n)
theorem bt_ok (n en dr : Int32) (x : TS) : btB n en dr x = !(decide (n < x.1) || (decide (n = x.1) && (decide (x.2.1 < en) || (decide (en = x.2.1) && !decide (dr < x.2.2.1))))) := by
  unfold btB
  by_cases h1 : n = x.1
  · by_cases h2 : en = x.2.1
    · simp [h1, h2, Int32.lt_irrefl]
    · have h3 : (en < x.2.1) ↔ ¬ (x.2.1 < en) := ⟨fun q => Int32.not_lt.mpr (Int32.le_of_lt q), fun q => Int32.lt_of_le_of_ne (Int32.not_lt.mp q) h2⟩
      rw [if_pos h1, if_neg h2, decide_eq_decide.mpr h3, decide_not]
      simp [h1, h2, Int32.lt_irrefl]
  · have h3 : (x.1 < n) ↔ ¬ (n < x.1) := ⟨fun q => Int32.not_lt.mpr (Int32.le_of_lt q), fun q => Int32.lt_of_le_of_ne (Int32.not_lt.mp q) (Ne.symm h1)⟩
    rw [if_neg h1, decide_eq_decide.mpr h3, decide_not]
    simp [h1]
section Co20
variable {w : Wd} {l : Launch} {K : Ly} {S : Sh} {I T : Mi} {J : Ml}
theorem kX1_isBetter (hC : coS S) {n en dr : Int32} {x : TS} : Ct w l yX1_isBetter cX1_isBetter 4 (some .boolean) 1 0 0 [.ref 0, .int n, .int en, .int dr] S (cM I x) J (Qe (some (.int (bz (btB n en dr x)))) S (cM I x) J) := by
  refine Ct.of [some _, some _, some _, some _] rfl (Nat.le_of_ble_eq_true rfl) (by decide) ?_
  intro κ hκ C
  subst hκ
  refine x_iload_n C dX1_isBetter_0 1 rfl rfl ?_
  refine x_aloadr_n C dX1_isBetter_1 2 rfl rfl ?_
  refine x_geti C fl_X1_102 (Or.inl rfl) dX1_isBetter_2 5 rfl hC.1 (show cM I x 0 35 = x.1 from rfl) ?_
  refine x_icmpeq C dX1_isBetter_5 8 22 rfl (by decide) (fun h5 => ?_) (fun h5 => ?_)
  · have e5 := eq_true h5
    refine x_iload_n C dX1_isBetter_22 23 rfl rfl ?_
    refine x_aloadr_n C dX1_isBetter_23 24 rfl rfl ?_
    refine x_geti C fl_X1_385 (Or.inl rfl) dX1_isBetter_24 27 rfl hC.1 (show cM I x 0 36 = x.2.1 from rfl) ?_
    refine x_icmpeq C dX1_isBetter_27 30 46 rfl (by decide) (fun h27 => ?_) (fun h27 => ?_)
    · have e27 := eq_true h27
      refine x_iload_n C dX1_isBetter_46 47 rfl rfl ?_
      refine x_aloadr_n C dX1_isBetter_47 48 rfl rfl ?_
      refine x_geti C fl_X1_388 (Or.inl rfl) dX1_isBetter_48 51 rfl hC.1 (show cM I x 0 37 = x.2.2.1 from rfl) ?_
      refine x_icmpge C dX1_isBetter_51 54 58 rfl (by decide) (fun h51 => ?_) (fun h51 => ?_)
      · refine x_ic (j := 0) C dX1_isBetter_58 59 rfl ?_
        exact x_zret C dX1_isBetter_59 (Nat.le_refl _) (Nat.le_refl _) rfl (Qz_of (by unfold btB; simp [bzt, bzf, e5, e27, h51]))
      · refine x_ic (j := 1) C dX1_isBetter_54 55 rfl ?_
        refine x_goto C dX1_isBetter_55 59 (by decide) ?_
        exact x_zret C dX1_isBetter_59 (Nat.le_refl _) (Nat.le_refl _) rfl (Qz_of (by unfold btB; simp [bzt, bzf, e5, e27, h51]))
    · refine x_iload_n C dX1_isBetter_30 31 rfl rfl ?_
      refine x_aloadr_n C dX1_isBetter_31 32 rfl rfl ?_
      refine x_geti C fl_X1_385 (Or.inl rfl) dX1_isBetter_32 35 rfl hC.1 (show cM I x 0 36 = x.2.1 from rfl) ?_
      refine x_icmpge C dX1_isBetter_35 38 42 rfl (by decide) (fun h35 => ?_) (fun h35 => ?_)
      · refine x_ic (j := 0) C dX1_isBetter_42 43 rfl ?_
        refine x_goto C dX1_isBetter_43 59 (by decide) ?_
        exact x_zret C dX1_isBetter_59 (Nat.le_refl _) (Nat.le_refl _) rfl (Qz_of (by unfold btB; simp [bzt, bzf, e5, h27, h35]))
      · refine x_ic (j := 1) C dX1_isBetter_38 39 rfl ?_
        refine x_goto C dX1_isBetter_39 59 (by decide) ?_
        exact x_zret C dX1_isBetter_59 (Nat.le_refl _) (Nat.le_refl _) rfl (Qz_of (by unfold btB; simp [bzt, bzf, e5, h27, h35]))
  · refine x_iload_n C dX1_isBetter_8 9 rfl rfl ?_
    refine x_aloadr_n C dX1_isBetter_9 10 rfl rfl ?_
    refine x_geti C fl_X1_102 (Or.inl rfl) dX1_isBetter_10 13 rfl hC.1 (show cM I x 0 35 = x.1 from rfl) ?_
    refine x_icmple C dX1_isBetter_13 16 20 rfl (by decide) (fun h13 => ?_) (fun h13 => ?_)
    · refine x_ic (j := 0) C dX1_isBetter_20 21 rfl ?_
      exact x_zret C dX1_isBetter_21 (Nat.le_refl _) (Nat.le_refl _) rfl (Qz_of (by unfold btB; simp [bzt, bzf, h5, h13]))
    · refine x_ic (j := 1) C dX1_isBetter_16 17 rfl ?_
      refine x_goto C dX1_isBetter_17 21 (by decide) ?_
      exact x_zret C dX1_isBetter_21 (Nat.le_refl _) (Nat.le_refl _) rfl (Qz_of (by unfold btB; simp [bzt, bzf, h5, h13]))
theorem kX1_home (hC : coS S) {wy op sh st : Nat → Int32} (hW : TrR I wy op sh st) {n here : Nat} (hn0 : 0 < n) (hn : n ≤ 6) (hh : here ≤ 6) {ti sn dr re : Int32} {x : TS} : Ct w l yX1_home cX1_home 11 none 2 0 0 [.ref 0, .int (nI n), .int (nI here), .int ti, .int dr, .int sn, .int re] S (cM I x) J (Qv (cM I (hmT wy n here ti sn dr re x)) S J) := by
  obtain ⟨x1, x2, x3, x4, x5, x6, x7, x8⟩ := x
  have hg := hC.2.2.2.2.2.2.2 here (by omega)
  have hhm : hmM wy n here = wy (7 * here) := if_neg (by omega)
  refine Ct.of [some _, some _, some _, some _, some _, some _, some _, none, none, none, none] rfl (Nat.le_of_ble_eq_true rfl) (by decide) ?_
  intro κ hκ C
  subst hκ
  refine x_aloadr_n C dX1_home_0 1 rfl rfl ?_
  refine x_getr C fl_X1_87 (Or.inr ⟨_, rfl⟩) dX1_home_1 4 rfl hC.1 (coR_ways hC) ?_
  refine x_iload_n C dX1_home_4 5 rfl rfl ?_
  refine x_aaldr (t := 8) C dX1_home_5 6 rfl (coA_ways hC) (by decide) (coN_ways hC) rfl (by omega) (by decide) hg.1 ?_
  refine x_ic (j := 0) C dX1_home_6 7 rfl ?_
  refine x_iald C dX1_home_7 8 rfl hg.2.1 hg.2.2 rfl (by omega) (by decide) ((congrFun (cM_n I _ (by omega)) 0).trans (hW.1 here 0 (by omega) (by decide))) ?_
  refine x_istore C dX1_home_8 10 rfl [_, _, _, _, _, _, _, _, _, _, _] (by decide) rfl rfl ?_
  generalize hm : wy (7 * here + 0) = m at *
  have hm : wy (7 * here) = m := hm
  refine x_iload C dX1_home_10 12 rfl rfl ?_
  refine x_iload C dX1_home_12 14 rfl rfl ?_
  refine x_iadd C dX1_home_14 15 rfl rfl ?_
  refine x_sip (j := 270) C dX1_home_15 18 rfl (by decide) ?_
  apply x_jNZ0 (pj := 26) (fun kt kf => x_icmple C dX1_home_18 21 25 rfl (by decide) kt kf)
  case ht =>
    intro K
    refine x_ic (j := 0) C dX1_home_25 26 rfl ?_
    exact K
  case hf =>
    intro K
    refine x_ic (j := 1) C dX1_home_21 22 rfl ?_
    refine x_goto C dX1_home_22 26 (by decide) ?_
    exact K
  refine x_istore C dX1_home_26 28 rfl [_, _, _, _, _, _, _, _, _, _, _] (by decide) rfl rfl ?_
  generalize hr : decide (nI 270 < sn + m) = rs at *
  refine x_iload_n C dX1_home_28 29 rfl rfl ?_
  refine x_iload C dX1_home_29 31 rfl rfl ?_
  refine x_iadd C dX1_home_31 32 rfl rfl ?_
  refine x_iload C dX1_home_32 34 rfl rfl ?_
  apply x_jNN (pj := 43) (fun kt kf => x_ifeqZ C dX1_home_34 37 42 rfl (by decide) (fun h => kt (by simp [h])) kf)
  case ht =>
    intro K
    refine x_ic (j := 0) C dX1_home_42 43 rfl ?_
    exact K
  case hf =>
    intro K
    refine x_bip (j := 45) C dX1_home_37 39 rfl (by decide) ?_
    refine x_goto C dX1_home_39 43 (by decide) ?_
    exact K
  refine x_iadd C dX1_home_43 44 rfl rfl ?_
  refine x_istore C dX1_home_44 46 rfl [_, _, _, _, _, _, _, _, _, _, _] (by decide) rfl rfl ?_
  generalize he : ti + m + nI (if rs = true then 45 else 0) = en at *
  have he2 : enT ti sn m = en := by unfold enT rsB; rw [hr]; exact he
  have hok : okH n m en dr (x1, x2, x3, x4, x5, x6, x7, x8) = (!decide (m = 0) && !decide (nI 540 < dr + m) && !decide (nI 1440 < en) && btB (nI n) en (dr + m) (x1, x2, x3, x4, x5, x6, x7, x8)) := by
    rw [bt_ok]
    unfold okH
    simp [hn0]
  refine x_iload C dX1_home_46 48 rfl rfl ?_
  refine x_ifeq C dX1_home_48 51 85 rfl (by decide) (fun h48 => ?_) (fun h48 => ?_)
  · have e48 := eq_true h48
    exact x_vret C dX1_home_85 (Nat.le_refl _) (Nat.le_refl _) (Qv_of (congrArg (cM I) (by unfold hmT; rw [hhm, he2, hok, if_neg (by simp [e48])])))
  · refine x_iload C dX1_home_51 53 rfl rfl ?_
    refine x_iload C dX1_home_53 55 rfl rfl ?_
    refine x_iadd C dX1_home_55 56 rfl rfl ?_
    refine x_sip (j := 540) C dX1_home_56 59 rfl (by decide) ?_
    refine x_icmpgt C dX1_home_59 62 85 rfl (by decide) (fun h59 => ?_) (fun h59 => ?_)
    · exact x_vret C dX1_home_85 (Nat.le_refl _) (Nat.le_refl _) (Qv_of (congrArg (cM I) (by unfold hmT; rw [hhm, he2, hok, if_neg (by simp [h48, h59])])))
    · refine x_iload C dX1_home_62 64 rfl rfl ?_
      refine x_sip (j := 1440) C dX1_home_64 67 rfl (by decide) ?_
      refine x_icmpgt C dX1_home_67 70 85 rfl (by decide) (fun h67 => ?_) (fun h67 => ?_)
      · exact x_vret C dX1_home_85 (Nat.le_refl _) (Nat.le_refl _) (Qv_of (congrArg (cM I) (by unfold hmT; rw [hhm, he2, hok, if_neg (by simp [h48, h59, h67])])))
      · refine x_aloadr_n C dX1_home_70 71 rfl rfl ?_
        refine x_iload_n C dX1_home_71 72 rfl rfl ?_
        refine x_iload C dX1_home_72 74 rfl rfl ?_
        refine x_iload C dX1_home_74 76 rfl rfl ?_
        refine x_iload C dX1_home_76 78 rfl rfl ?_
        refine x_iadd C dX1_home_78 79 rfl rfl ?_
        refine x_callV C lk_X1_398 dX1_home_79 82 rfl [_, _, _] [] rfl rfl hC.1 (Nat.le_of_ble_eq_true rfl) (by decide) (Nat.le_refl _) (Nat.le_refl _) (kX1_isBetter hC) ?_
        rintro _ _ _ _ ⟨rfl, rfl, rfl, rfl⟩
        refine x_ifneZ C dX1_home_82 85 86 rfl (by decide) (fun h82 => ?_) (fun h82 => ?_)
        · refine x_aloadr_n C dX1_home_86 87 rfl rfl ?_
          refine x_iload_n C dX1_home_87 88 rfl rfl ?_
          refine x_puti C fl_X1_102 (Or.inl rfl) (Or.inl rfl) dX1_home_88 91 rfl hC.1 ?_
          refine x_eqI (c35 _ _ _ _ _ _ _ _ _ _) ?_
          refine x_aloadr_n C dX1_home_91 92 rfl rfl ?_
          refine x_iload C dX1_home_92 94 rfl rfl ?_
          refine x_puti C fl_X1_385 (Or.inl rfl) (Or.inl rfl) dX1_home_94 97 rfl hC.1 ?_
          refine x_eqI (c36 _ _ _ _ _ _ _ _ _ _) ?_
          refine x_aloadr_n C dX1_home_97 98 rfl rfl ?_
          refine x_iload C dX1_home_98 100 rfl rfl ?_
          refine x_iload C dX1_home_100 102 rfl rfl ?_
          refine x_iadd C dX1_home_102 103 rfl rfl ?_
          refine x_puti C fl_X1_388 (Or.inl rfl) (Or.inl rfl) dX1_home_103 106 rfl hC.1 ?_
          refine x_eqI (c37 _ _ _ _ _ _ _ _ _ _) ?_
          refine x_aloadr_n C dX1_home_106 107 rfl rfl ?_
          refine x_iload C dX1_home_107 109 rfl rfl ?_
          refine x_iload C dX1_home_109 111 rfl rfl ?_
          apply x_jb (pj := 119) (fun kt kf => x_ifeqZ C dX1_home_111 114 118 rfl (by decide) kt kf)
          case ht =>
            intro K
            refine x_ic (j := 0) C dX1_home_118 119 rfl ?_
            exact K
          case hf =>
            intro K
            refine x_ic (j := 1) C dX1_home_114 115 rfl ?_
            refine x_goto C dX1_home_115 119 (by decide) ?_
            exact K
          refine x_iadd C dX1_home_119 120 rfl rfl ?_
          refine x_puti C fl_X1_401 (Or.inl rfl) (Or.inl rfl) dX1_home_120 123 rfl hC.1 ?_
          refine x_eqI (c38 _ _ _ _ _ _ _ _ _ _) ?_
          refine x_ic (j := 0) C dX1_home_123 124 rfl ?_
          refine x_istore C dX1_home_124 126 rfl [_, _, _, _, _, _, _, _, _, _, _] (by decide) rfl rfl ?_
          have hl : ∀ (j k : Nat), k + j = n → XX w κ (Zr w κ (Qv (cM I (hmT wy n here ti sn dr re (x1, x2, x3, x4, x5, x6, x7, x8))) S J)) 0 0 126 [some (.ref 0), some (.int (nI n)), some (.int (nI here)), some (.int ti), some (.int dr), some (.int sn), some (.int re), some (.int m), some (.int (bz rs)), some (.int en), some (.int (nI k))] [] S (cM I (nI n, en, dr + m, re + bz rs, cpf x7 x5 k, cpf x8 x6 k, x7, x8)) J := by
            intro j
            induction j with
            | zero =>
              intro k hk
              have hk : n = k := Eq.symm hk
              subst hk
              refine x_iload C dX1_home_126 128 rfl rfl ?_
              refine x_iload_n C dX1_home_128 129 rfl rfl ?_
              refine x_icmpgeN C dX1_home_129 132 166 rfl (by decide) (by omega) (by omega) (fun _ => ?_) (fun h129 => absurd h129 (by omega))
              exact x_vret C dX1_home_166 (Nat.le_refl _) (Nat.le_refl _) (Qv_of (congrArg (cM I) (by unfold hmT; rw [hhm, he2, hok, show rsB sn m = rs from hr, if_pos (by simp [h48, h59, h67, h82])]; rfl)))
            | succ j ih =>
              intro k hk
              refine x_iload C dX1_home_126 128 rfl rfl ?_
              refine x_iload_n C dX1_home_128 129 rfl rfl ?_
              refine x_icmpgeN C dX1_home_129 132 166 rfl (by decide) (by omega) (by omega) (fun h129 => absurd h129 (by omega)) (fun _ => ?_)
              refine x_aloadr_n C dX1_home_132 133 rfl rfl ?_
              refine x_getr C fl_X1_96 (Or.inr ⟨_, rfl⟩) dX1_home_133 136 rfl hC.1 (coR_bestSights hC) ?_
              refine x_iload C dX1_home_136 138 rfl rfl ?_
              refine x_aloadr_n C dX1_home_138 139 rfl rfl ?_
              refine x_getr C fl_X1_90 (Or.inr ⟨_, rfl⟩) dX1_home_139 142 rfl hC.1 (coR_tried hC) ?_
              refine x_iload C dX1_home_142 144 rfl rfl ?_
              refine x_iald C dX1_home_144 145 rfl (coA_tried hC) (coN_tried hC) rfl (by omega) (by decide) (show cM I (_, _, _, _, _, _, x7, _) 469 k = x7 k from rfl) ?_
              refine x_iast C dX1_home_145 146 rfl (coA_bestSights hC) (coN_bestSights hC) rfl (by omega) (by decide) ?_
              refine x_eqI ((c471 _ _ _ _ _ _ _ _ _ _ _).trans (congrArg (fun z => cM I (_, _, _, _, z, _, _, _)) (cpf_s x7 x5 k))) ?_
              refine x_aloadr_n C dX1_home_146 147 rfl rfl ?_
              refine x_getr C fl_X1_99 (Or.inr ⟨_, rfl⟩) dX1_home_147 150 rfl hC.1 (coR_bestBegun hC) ?_
              refine x_iload C dX1_home_150 152 rfl rfl ?_
              refine x_aloadr_n C dX1_home_152 153 rfl rfl ?_
              refine x_getr C fl_X1_93 (Or.inr ⟨_, rfl⟩) dX1_home_153 156 rfl hC.1 (coR_begun hC) ?_
              refine x_iload C dX1_home_156 158 rfl rfl ?_
              refine x_iald C dX1_home_158 159 rfl (coA_begun hC) (coN_begun hC) rfl (by omega) (by decide) (show cM I (_, _, _, _, _, _, _, x8) 470 k = x8 k from rfl) ?_
              refine x_iast C dX1_home_159 160 rfl (coA_bestBegun hC) (coN_bestBegun hC) rfl (by omega) (by decide) ?_
              refine x_eqI ((c472 _ _ _ _ _ _ _ _ _ _ _).trans (congrArg (fun z => cM I (_, _, _, _, _, z, _, _)) (cpf_s x8 x6 k))) ?_
              refine x_iinc C dX1_home_160 163 rfl [_, _, _, _, _, _, _, _, _, _, _] (nI_inc _) (by decide) rfl rfl rfl ?_
              refine x_goto C dX1_home_163 126 (by decide) ?_
              exact ih (k + 1) (by omega)
          refine x_eqI ?_ (hl n 0 (Nat.zero_add _))
          rw [cpf_0, cpf_0]
        · exact x_vret C dX1_home_85 (Nat.le_refl _) (Nat.le_refl _) (Qv_of (congrArg (cM I) (by unfold hmT; rw [hhm, he2, hok, if_neg (by simp [h48, h59, h67, h82])])))
end Co20
