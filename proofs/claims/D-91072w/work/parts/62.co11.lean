/-! the component: gone, friends, bars -/
theorem bz_inj {a b : Bool} (h : bz a = bz b) : a = b := by
  cases a <;> cases b <;> first | rfl | exact absurd h (by decide)
theorem Qp_g {q : Int32 × Mi} {K : Ly} {S S' : Sh} {I I' : Mi} {J : Ml} {c : Nat} {v : Int32} {T' : Mi} (hq : q = (v, T')) (hR : CoR K S' I' T') (hf : fzI I I') (hs : fzS S S') (hc : S'.2.2.2 ≤ S.2.2.2 + c) : Qp q S I J c (some (.int v)) S' I' J := by
  subst hq
  exact ⟨rfl, ⟨K, hR⟩, hs, hf, fzJ_rfl, hc⟩
theorem fzS_set {S S' : Sh} (h : fzS S S') {a k : Nat} {r : Option Nat} (ha : a < 473 ∨ 519 < a) : fzS S (setR S' a k r) := fun b h1 h2 => ⟨(h b h1 h2).1, (h b h1 h2).2.1, by
  show sto S'.2.2.1 a k r b = _
  rw [sto_n _ _ _ (by omega)]
  exact (h b h1 h2).2.2⟩
section
variable {K : Ly} {S : Sh} {I T : Mi}
theorem CoR_g1 (h : CoR K S I T) {p : Nat} (hp : p < pn T) (v : Int32) : CoR K S (sto I (pa K p) 9 v) (sto T 480 p v) := by
  refine CoR_pq (· = p) h ⟨rfl, rfl, rfl⟩ (fun a ha => ⟨rfl, sto_n _ _ _ (ha p hp rfl)⟩) (fun b hb => ?_) (fun b q hP hb => ?_) (fun q j hP hj => rfl) (fun q hq e => ?_)
  · simp only [List.mem_cons, List.not_mem_nil, or_false] at hb
    rw [sto_n _ _ _ (by omega)]
  · rw [sto_at, if_neg (fun e => hP e.2)]
  · have e : q = p := e
    subst e
    have e : ∀ i, sto I (pa K q) 9 v (pa K q) i = if i = 9 then v else I (pa K q) i := by
      intro i
      rw [sto_at]
      simp
    obtain ⟨g1, g2, g3, g4, g5, g6, g7, g8, g9, g10, g11, g12, g13⟩ := cr_pe h hq
    unfold perR
    simp only [e]
    exact ⟨g1, g2, g3, g4, g5, g6, g7, g8, g9, g10, g11, (sto_ss _ _ _ _).symm, g13⟩
theorem CoR_fr1 (h : CoR K S I T) {a : Nat} (ha : a < pn T) {va : Int32} {ra_ : Option Nat} (hra : ra_ = if va = -1 then none else some (pa K (nt va))) : CoR K (setR S (pa K a) 10 ra_) I (sto T 481 a va) := by
  refine CoR_pq (· = a) h ⟨rfl, rfl, rfl⟩ (fun b hb => ⟨sto_n _ _ _ (hb a ha rfl), rfl⟩) (fun b hb => ?_) (fun b q hP hb => ?_) (fun q j hP hj => rfl) (fun q hq e => ?_)
  · simp only [List.mem_cons, List.not_mem_nil, or_false] at hb
    rw [sto_n _ _ _ (by omega)]
  · rw [sto_at, if_neg (fun e => hP e.2)]
  · have e : q = a := e
    subst e
    obtain ⟨g1, g2, g3, g4, g5, g6, g7, g8, g9, g10, g11, g12, g13⟩ := cr_pe h hq
    have e1 : (setR S (pa K q) 10 ra_).2.2.1 1 q = S.2.2.1 1 q := congrFun (sto_n _ _ _ (Ne.symm (ap_pf h hq (by decide)))) _
    have e2 : (setR S (pa K q) 10 ra_).2.2.1 (pa K q) 10 = ra_ := sto_ss _ _ _ _
    refine ⟨by rw [e1]; exact g1, g2, g3, g4, g5, g6, g7, g8, g9, g10, g11, g12, ?_⟩
    rw [e2]
    unfold frR
    rw [sto_ss]
    exact hra
theorem bm_xor {T T' : Mi} {a b : Nat} (hb : b < 10) (h : ∀ q, q < 10 → (decide (T' 482 (10 * a + q) = 0) = (decide (T 482 (10 * a + q) = 0) ^^ decide (q = b)))) : bmN T' a = bmN T a ^^^ 2 ^ b := by
  refine Nat.eq_of_testBit_eq (fun i => ?_)
  rw [Nat.testBit_xor, Nat.testBit_two_pow]
  unfold bmN
  rw [msk_bit, msk_bit]
  by_cases hi : i < 10
  · rw [h i hi]
    by_cases e : i = b
    · subst e
      simp [hi]
    · have e' : ¬ b = i := fun q => e q.symm
      simp [hi, e, e']
  · have e' : ¬ b = i := by omega
    simp [hi, e']
theorem CoR_bar (h : CoR K S I T) (hI : Tok T) (hB : BrOk T) {a b : Nat} (ha : a < pn T) (hb : b < pn T) (hne : ¬ a = b) {is : Bool} (hv : ¬ T 482 (10 * a + b) = bz is) : CoR K S (sto (sto I (pa K a) 7 (nI (bmN T a ^^^ 2 ^ b))) (pa K b) 7 (nI (bmN T b ^^^ 2 ^ a))) (sto (sto T 482 (10 * a + b) (bz is)) 482 (10 * b + a) (bz is)) := by
  have h10 := tk_p2 hI
  have hab : pa K a ≠ pa K b := fun e => hne ((cr_ly h).1 a b ha hb e)
  have hx : ∀ x y q, x < 10 → y < 10 → q < 10 → ¬ x = y → ¬ T 482 (10 * x + y) = bz is → decide (sto (sto T 482 (10 * x + y) (bz is)) 482 (10 * y + x) (bz is) 482 (10 * x + q) = 0) = (decide (T 482 (10 * x + q) = 0) ^^ decide (q = y)) := by
    intro x y q hx hy hq hxy hv
    rw [sto_at, sto_at, if_neg (by omega)]
    by_cases e : q = y
    · subst e
      rw [if_pos ⟨rfl, rfl⟩]
      have hz := (hB x q hx hy).1
      cases is with
      | true =>
        have : T 482 (10 * x + q) = 0 := hz.resolve_right hv
        rw [this, show decide (q = q) = true from decide_eq_true rfl]
        decide
      | false =>
        have : T 482 (10 * x + q) = nI 1 := hz.resolve_left hv
        rw [this, show decide (q = q) = true from decide_eq_true rfl]
        decide
    · rw [if_neg (by omega)]
      simp [e]
  have ea : ∀ q, q < 10 → decide (sto (sto T 482 (10 * a + b) (bz is)) 482 (10 * b + a) (bz is) 482 (10 * a + q) = 0) = (decide (T 482 (10 * a + q) = 0) ^^ decide (q = b)) := fun q hq => hx a b q (by omega) (by omega) hq hne hv
  have eb : ∀ q, q < 10 → decide (sto (sto T 482 (10 * a + b) (bz is)) 482 (10 * b + a) (bz is) 482 (10 * b + q) = 0) = (decide (T 482 (10 * b + q) = 0) ^^ decide (q = a)) := by
    intro q hq
    have := hx b a q (by omega) (by omega) hq (fun e => hne e.symm) (by rw [← (hB a b (by omega) (by omega)).2]; exact hv)
    rw [← this, sto_at, sto_at, sto_at, sto_at]
    congr 1
    by_cases e1 : 10 * b + q = 10 * a + b
    · simp [e1]
    · by_cases e2 : q = a
      · simp [e2]
      · have : ¬ 10 * b + q = 10 * b + a := by omega
        simp [e1, this]
  refine CoR_pq (fun q => q = a ∨ q = b) h ⟨rfl, rfl, rfl⟩ (fun c hc => ⟨rfl, ?_⟩) (fun c hc => ?_) (fun c q hP hc => ?_) (fun q j hP hj => ?_) (fun q hq e => ?_)
  · rw [sto_n _ _ _ (hc b hb (Or.inr rfl)), sto_n _ _ _ (hc a ha (Or.inl rfl))]
  · simp only [List.mem_cons, List.not_mem_nil, or_false] at hc
    rw [sto_n _ _ _ (by omega), sto_n _ _ _ (by omega)]
  · simp only [List.mem_cons, List.not_mem_nil, or_false] at hc
    rw [sto_n _ _ _ (by omega), sto_n _ _ _ (by omega)]
  · have h1 : ¬ q = a := fun e => hP (Or.inl e)
    have h2 : ¬ q = b := fun e => hP (Or.inr e)
    rw [sto_at, sto_at, if_neg (by omega), if_neg (by omega)]
  · obtain ⟨g1, g2, g3, g4, g5, g6, g7, g8, g9, g10, g11, g12, g13⟩ := cr_pe h hq
    by_cases e1 : q = b
    · subst e1
      have e : ∀ i, sto (sto I (pa K a) 7 (nI (bmN T a ^^^ 2 ^ q))) (pa K q) 7 (nI (bmN T q ^^^ 2 ^ a)) (pa K q) i = if i = 7 then nI (bmN T q ^^^ 2 ^ a) else I (pa K q) i := by
        intro i
        rw [sto_at, sto_n _ _ _ (Ne.symm hab)]
        simp
      unfold perR
      simp only [e]
      exact ⟨g1, g2, g3, g4, g5, g6, g7, g8, g9, by rw [bm_xor (by omega) eb]; rfl, g11, g12, g13⟩
    · have e2 : q = a := e.resolve_right e1
      subst e2
      have e : ∀ i, sto (sto I (pa K q) 7 (nI (bmN T q ^^^ 2 ^ b))) (pa K b) 7 (nI (bmN T b ^^^ 2 ^ q)) (pa K q) i = if i = 7 then nI (bmN T q ^^^ 2 ^ b) else I (pa K q) i := by
        intro i
        rw [sto_n _ _ _ hab, sto_at]
        simp
      unfold perR
      simp only [e]
      exact ⟨g1, g2, g3, g4, g5, g6, g7, g8, g9, by rw [bm_xor (by omega) ea]; rfl, g11, g12, g13⟩
end
section Co11
variable {w : Wd} {l : Launch} {K : Ly} {S : Sh} {I T : Mi} {J : Ml}
theorem kX1_bar (hR : CoR K S I T) (hI : Tok T) (hB : BrOk T) {a b : Int32} {is : Bool} : Ct w l yX1_bar cX1_bar 4 (some .boolean) 3 0 0 [.ref 0, .int a, .int b, .int (bz is)] S I J (Qp (sp_bar T a b is) S I J 0) := by
  refine Ct.of [some _, some _, some _, some _] rfl (Nat.le_of_ble_eq_true rfl) (by decide) ?_
  intro κ hκ C
  subst hκ
  have hC := cr_S hR
  have hp10 := tk_p2 hI
  have ht6 := tk_t2 hI
  have hg30 := tk_g2 hI
  have hc30 := tk_c2 hI
  have hn500 := tk_n2 hI
  refine x_aloadr_n C dX1_bar_0 1 rfl rfl ?_
  refine x_iload_n C dX1_bar_1 2 rfl rfl ?_
  refine x_callV C lk_X1_134 dX1_bar_2 5 rfl [_] [] rfl rfl hC.1 (Nat.le_of_ble_eq_true rfl) (by decide) (Nat.le_refl _) (Nat.le_refl _) (kX1_isPerson hR) ?_
  rintro _ _ _ _ ⟨rfl, rfl, rfl, rfl⟩
  refine x_ifeqZ C dX1_bar_5 8 47 rfl (by decide) (fun h5 => ?_) (fun h5 => ?_)
  · refine x_ic (j := 0) C dX1_bar_47 48 rfl ?_
    exact x_zret C dX1_bar_48 (Nat.le_refl _) (Nat.le_refl _) rfl (Qp_n hR (by simp [sp_bar, no0, h5]))
  · refine x_aloadr_n C dX1_bar_8 9 rfl rfl ?_
    refine x_iload_n C dX1_bar_9 10 rfl rfl ?_
    refine x_callV C lk_X1_134 dX1_bar_10 13 rfl [_] [] rfl rfl hC.1 (Nat.le_of_ble_eq_true rfl) (by decide) (Nat.le_refl _) (Nat.le_refl _) (kX1_isPerson hR) ?_
    rintro _ _ _ _ ⟨rfl, rfl, rfl, rfl⟩
    refine x_ifeqZ C dX1_bar_13 16 47 rfl (by decide) (fun h13 => ?_) (fun h13 => ?_)
    · refine x_ic (j := 0) C dX1_bar_47 48 rfl ?_
      exact x_zret C dX1_bar_48 (Nat.le_refl _) (Nat.le_refl _) rfl (Qp_n hR (by simp [sp_bar, no0, h5, h13]))
    · refine x_iload_n C dX1_bar_16 17 rfl rfl ?_
      refine x_iload_n C dX1_bar_17 18 rfl rfl ?_
      refine x_icmpeq C dX1_bar_18 21 47 rfl (by decide) (fun h18 => ?_) (fun h18 => ?_)
      · have e18 := eq_true h18
        refine x_ic (j := 0) C dX1_bar_47 48 rfl ?_
        exact x_zret C dX1_bar_48 (Nat.le_refl _) (Nat.le_refl _) rfl (Qp_n hR (by simp [sp_bar, no0, h18]))
      · obtain ⟨a, ha, rfl⟩ := pe_I hI h5
        obtain ⟨b, hb, rfl⟩ := pe_I hI h13
        have ea : nt (nI a) = a := nt_nI (by omega)
        have eb : nt (nI b) = b := nt_nI (by omega)
        have hne : ¬ a = b := fun e => h18 (by rw [e])
        have hbl := bm_lt T a
        have hbl2 := bm_lt T b
        have h520 := ((cr_ly hR).2.2.2.1 a ha).1
        have h521 := ((cr_ly hR).2.2.2.1 b hb).1
        have hab : pa K b ≠ pa K a := fun e => hne ((cr_ly hR).1 a b ha hb e.symm)
        have hbit : decide (bit (bmN T a) b = 1) = !decide (T 482 (10 * a + b) = 0) := by
          rw [← bm_bit (show b < 10 by omega), bit_if]
          cases (bmN T a).testBit b <;> rfl
        have hz : (!decide (T 482 (10 * a + b) = 0)) = is ↔ T 482 (10 * a + b) = bz is := by
          rcases (hB a b (by omega) (by omega)).1 with q | q
          · rw [q]
            cases is <;> decide
          · rw [q]
            cases is <;> decide
        refine x_aloadr_n C dX1_bar_21 22 rfl rfl ?_
        refine x_getr C fl_X1_11 (Or.inr ⟨_, rfl⟩) dX1_bar_22 25 rfl hC.1 (coR_people hC) ?_
        refine x_iload_n C dX1_bar_25 26 rfl rfl ?_
        refine x_aaldr (t := 4) C dX1_bar_26 27 rfl (coA_people hC) (by decide) (coN_people hC) rfl (by omega) (by decide) (cp_elt hR ha) ?_
        refine x_geti C fl_X1_145 (Or.inl rfl) dX1_bar_27 30 rfl (cp_T hR ha) (cp_bars hR ha) ?_
        refine x_iload_n C dX1_bar_30 31 rfl rfl ?_
        refine x_ishr C dX1_bar_31 32 rfl (nI_shrp _ _ (by omega) (by omega)) ?_
        refine x_ic (j := 1) C dX1_bar_32 33 rfl ?_
        refine x_iand C dX1_bar_33 34 rfl (nI_bit _ _) ?_
        refine x_ic (j := 1) C dX1_bar_34 35 rfl ?_
        apply x_jNZ0 (pj := 43) (fun kt kf => x_icmpneN C dX1_bar_35 38 42 rfl (by decide) (by have := bit_lt (bmN T a) b; omega) (by have := bit_lt (bmN T a) b; omega) kt kf)
        case ht =>
          intro K
          refine x_ic (j := 0) C dX1_bar_42 43 rfl ?_
          exact K
        case hf =>
          intro K
          refine x_ic (j := 1) C dX1_bar_38 39 rfl ?_
          refine x_goto C dX1_bar_39 43 (by decide) ?_
          exact K
        refine x_iload_n C dX1_bar_43 44 rfl rfl ?_
        refine x_icmpne C dX1_bar_44 47 49 rfl (by decide) (fun q44 => ?_) (fun q44 => ?_)
        · have h44 : ¬ T 482 (10 * a + b) = bz is := fun e => q44 (by rw [hbit, hz.mpr e])
          refine x_aloadr_n C dX1_bar_49 50 rfl rfl ?_
          refine x_getr C fl_X1_11 (Or.inr ⟨_, rfl⟩) dX1_bar_50 53 rfl hC.1 (coR_people hC) ?_
          refine x_iload_n C dX1_bar_53 54 rfl rfl ?_
          refine x_aaldr (t := 4) C dX1_bar_54 55 rfl (coA_people hC) (by decide) (coN_people hC) rfl (by omega) (by decide) (cp_elt hR ha) ?_
          refine x_dup C dX1_bar_55 56 rfl rfl ?_
          refine x_geti C fl_X1_145 (Or.inl rfl) dX1_bar_56 59 rfl (cp_T hR ha) (cp_bars hR ha) ?_
          refine x_ic (j := 1) C dX1_bar_59 60 rfl ?_
          refine x_iload_n C dX1_bar_60 61 rfl rfl ?_
          refine x_ishl C dX1_bar_61 62 rfl (nI_shl1' _ (by omega)) ?_
          refine x_ixor C dX1_bar_62 63 rfl (nI_xor _ _) ?_
          refine x_puti C fl_X1_145 (Or.inl rfl) (Or.inl rfl) dX1_bar_63 66 rfl (cp_T hR ha) ?_
          refine x_aloadr_n C dX1_bar_66 67 rfl rfl ?_
          refine x_getr C fl_X1_11 (Or.inr ⟨_, rfl⟩) dX1_bar_67 70 rfl hC.1 (coR_people hC) ?_
          refine x_iload_n C dX1_bar_70 71 rfl rfl ?_
          refine x_aaldr (t := 4) C dX1_bar_71 72 rfl (coA_people hC) (by decide) (coN_people hC) rfl (by omega) (by decide) (cp_elt hR hb) ?_
          refine x_dup C dX1_bar_72 73 rfl rfl ?_
          refine x_geti C fl_X1_145 (Or.inl rfl) dX1_bar_73 76 rfl (cp_T hR hb) ((congrFun (sto_n _ _ _ hab) _).trans (cp_bars hR hb)) ?_
          refine x_ic (j := 1) C dX1_bar_76 77 rfl ?_
          refine x_iload_n C dX1_bar_77 78 rfl rfl ?_
          refine x_ishl C dX1_bar_78 79 rfl (nI_shl1' _ (by omega)) ?_
          refine x_ixor C dX1_bar_79 80 rfl (nI_xor _ _) ?_
          refine x_puti C fl_X1_145 (Or.inl rfl) (Or.inl rfl) dX1_bar_80 83 rfl (cp_T hR hb) ?_
          refine x_ic (j := 1) C dX1_bar_83 84 rfl ?_
          exact x_zret C dX1_bar_84 (Nat.le_refl _) (Nat.le_refl _) rfl (Qp_s (by simp [sp_bar, h5, h13, h18, ea, eb, h44]) (CoR_bar hR hI hB ha hb hne h44) (fz_sto (fz_sto fz_rfl (by omega)) (by omega)))
        · have h44 : T 482 (10 * a + b) = bz is := by { rw [hbit] at q44; exact hz.mp (bz_inj q44) }
          refine x_ic (j := 0) C dX1_bar_47 48 rfl ?_
          exact x_zret C dX1_bar_48 (Nat.le_refl _) (Nat.le_refl _) rfl (Qp_n hR (by simp [sp_bar, no0, h5, h13, h18, ea, eb, h44]))
theorem kX1_gone (hR : CoR K S I T) (hI : Tok T) (hF : FrOk T) {p : Int32} : Ct w l yX1_gone cX1_gone 3 (some .boolean) 4 0 0 [.ref 0, .int p] S I J (Qp (sp_gone T p) S I J 0) := by
  refine Ct.of [some _, some _, none] rfl (Nat.le_of_ble_eq_true rfl) (by decide) ?_
  intro κ hκ C
  subst hκ
  have hC := cr_S hR
  have hp10 := tk_p2 hI
  have ht6 := tk_t2 hI
  have hg30 := tk_g2 hI
  have hc30 := tk_c2 hI
  have hn500 := tk_n2 hI
  refine x_aloadr_n C dX1_gone_0 1 rfl rfl ?_
  refine x_iload_n C dX1_gone_1 2 rfl rfl ?_
  refine x_callV C lk_X1_134 dX1_gone_2 5 rfl [_] [] rfl rfl hC.1 (Nat.le_of_ble_eq_true rfl) (by decide) (Nat.le_refl _) (Nat.le_refl _) (kX1_isPerson hR) ?_
  rintro _ _ _ _ ⟨rfl, rfl, rfl, rfl⟩
  refine x_ifeqZ C dX1_gone_5 8 31 rfl (by decide) (fun h5 => ?_) (fun h5 => ?_)
  · refine x_ic (j := 0) C dX1_gone_31 32 rfl ?_
    exact x_zret C dX1_gone_32 (Nat.le_refl _) (Nat.le_refl _) rfl (Qp_n hR (by simp [sp_gone, no0, h5]))
  · obtain ⟨p, hp, rfl⟩ := pe_I hI h5
    have ep : nt (nI p) = p := nt_nI (by omega)
    have h520 := ((cr_ly hR).2.2.2.1 p hp).1
    refine x_aloadr_n C dX1_gone_8 9 rfl rfl ?_
    refine x_getr C fl_X1_11 (Or.inr ⟨_, rfl⟩) dX1_gone_9 12 rfl hC.1 (coR_people hC) ?_
    refine x_iload_n C dX1_gone_12 13 rfl rfl ?_
    refine x_aaldr (t := 4) C dX1_gone_13 14 rfl (coA_people hC) (by decide) (coN_people hC) rfl (by omega) (by decide) (cp_elt hR hp) ?_
    refine x_geti C fl_X1_137 (Or.inr (Or.inl rfl)) dX1_gone_14 17 rfl (cp_T hR hp) (cp_isGone hR hp) ?_
    refine x_ifne C dX1_gone_17 20 31 rfl (by decide) (fun h17 => ?_) (fun h17 => ?_)
    · refine x_ic (j := 0) C dX1_gone_31 32 rfl ?_
      exact x_zret C dX1_gone_32 (Nat.le_refl _) (Nat.le_refl _) rfl (Qp_n hR (by simp [sp_gone, no0, h5, ep, h17]))
    · refine x_aloadr_n C dX1_gone_20 21 rfl rfl ?_
      refine x_iload_n C dX1_gone_21 22 rfl rfl ?_
      refine x_ic (j := 1) C dX1_gone_22 23 rfl ?_
      refine x_ic (j := 0) C dX1_gone_23 24 rfl ?_
      refine x_ic (j := 0) C dX1_gone_24 25 rfl ?_
      refine x_callV C lk_X1_168 dX1_gone_25 28 rfl [_, _, _, _] [] rfl rfl hC.1 (Nat.le_of_ble_eq_true rfl) (by decide) (Nat.le_refl _) (Nat.le_refl _) (kX1_leaves hR hI (g := true) (fr := nI 0) (tt := nI 0) (fr' := nI 1) (tt' := nI 0) (by omega) (fun t _ => by { have : inB (nI t) (nI 1) (nI 0) = false := by { cases e : inB (nI t) (nI 1) (nI 0) with | false => rfl | true => exact absurd (Int32.le_trans (inB_iff.mp e).1 (inB_iff.mp e).2) (by decide) }; rw [this]; rfl })) ?_
      rintro _ _ M _ ⟨rfl, rfl, rfl, hM, hf⟩
      refine x_ifneZ C dX1_gone_28 31 33 rfl (by decide) (fun h28 => ?_) (fun h28 => ?_)
      · have epn : pn (sp_leaves T p (nI 1) (nI 0) (tn T)).2 = pn T := by
          unfold sp_leaves
          split
          · show nt (lvS T p _ _ _ 473 1) = _
            rw [lvS_473 T p _ _ (by decide)]
          · rfl
        have e481 : (sp_leaves T p (nI 1) (nI 0) (tn T)).2 481 = T 481 := lv_row (by decide)
        have hp2 : p < pn (sp_leaves T p (nI 1) (nI 0) (tn T)).2 := by omega
        have efr : frR K (sp_leaves T p (nI 1) (nI 0) (tn T)).2 p = frR K T p := by unfold frR; rw [e481]
        have hM2 := CoR_g1 hM hp2 (nI 1)
        refine x_aloadr_n C dX1_gone_33 34 rfl rfl ?_
        refine x_getr C fl_X1_11 (Or.inr ⟨_, rfl⟩) dX1_gone_34 37 rfl hC.1 (coR_people hC) ?_
        refine x_iload_n C dX1_gone_37 38 rfl rfl ?_
        refine x_aaldr (t := 4) C dX1_gone_38 39 rfl (coA_people hC) (by decide) (coN_people hC) rfl (by omega) (by decide) (cp_elt hR hp) ?_
        refine x_astorer_n C dX1_gone_39 40 rfl [_, _, _] (by decide) rfl rfl ?_
        refine x_aloadr_n C dX1_gone_40 41 rfl rfl ?_
        refine x_ic (j := 1) C dX1_gone_41 42 rfl ?_
        refine x_puti C fl_X1_137 (Or.inr ⟨Or.inl rfl, ⟨rfl, rfl⟩⟩) (Or.inl rfl) dX1_gone_42 45 rfl (cp_T hR hp) ?_
        refine x_aloadr_n C dX1_gone_45 46 rfl rfl ?_
        refine x_getq C fl_X1_141 (Or.inl ⟨_, rfl⟩) dX1_gone_46 49 rfl (cp_T hR hp) ((cp_friend hM hp2).trans efr) ?_
        refine x_ifnull C dX1_gone_49 52 60 rfl (by decide) (fun h49 => ?_) (fun b49 h49 => ?_)
        · refine x_aloadr_n C dX1_gone_60 61 rfl rfl ?_
          refine x_null C dX1_gone_61 62 rfl ?_
          refine x_putq (r := none) C fl_X1_141 (Or.inl ⟨_, rfl⟩) (Or.inl rfl) dX1_gone_62 65 rfl (cp_T hR hp) ?_
          refine x_ic (j := 1) C dX1_gone_65 66 rfl ?_
          exact x_zret C dX1_gone_66 (Nat.le_refl _) (Nat.le_refl _) rfl (Qp_g (by simp [sp_gone, goneS, e481, fr_none.mp h49, h5, ep, h17, h28, h49]) (CoR_fr1 hM2 hp2 (va := -1) (if_pos rfl).symm) (fz_sto hf (by omega)) (fzS_set fzS_rfl (by omega)) (Nat.le_add_right _ _))
        · have hne : ¬ T 481 p = -1 := fun q => by rw [fr_none.mpr q] at h49; cases h49
          obtain ⟨j, hj, ej, -⟩ := (hF p hp).resolve_left hne
          have e3 : nt (T 481 p) = j := nt_of ej (by omega)
          have h521 := ((cr_ly hR).2.2.2.1 j hj).1
          have hj2 : j < pn (sp_leaves T p (nI 1) (nI 0) (tn T)).2 := by omega
          have hfr : S.2.2.1 (pa K p) 10 = some (pa K j) := by rw [cp_friend hR hp]; unfold frR; rw [if_neg hne, e3]
          refine x_aloadr_n C dX1_gone_52 53 rfl rfl ?_
          refine x_getr C fl_X1_141 (Or.inl ⟨_, rfl⟩) dX1_gone_53 56 rfl (cp_T hR hp) hfr ?_
          refine x_null C dX1_gone_56 57 rfl ?_
          refine x_putq (r := none) C fl_X1_141 (Or.inl ⟨_, rfl⟩) (Or.inl rfl) dX1_gone_57 60 rfl (cp_T hR hj) ?_
          refine x_aloadr_n C dX1_gone_60 61 rfl rfl ?_
          refine x_null C dX1_gone_61 62 rfl ?_
          refine x_putq (r := none) C fl_X1_141 (Or.inl ⟨_, rfl⟩) (Or.inl rfl) dX1_gone_62 65 rfl (cp_T hR hp) ?_
          refine x_ic (j := 1) C dX1_gone_65 66 rfl ?_
          exact x_zret C dX1_gone_66 (Nat.le_refl _) (Nat.le_refl _) rfl (Qp_g (by simp [sp_gone, goneS, e481, e3, hne, h5, ep, h17, h28, h49]) (CoR_fr1 (CoR_fr1 hM2 hj2 (va := -1) (if_pos rfl).symm) hp2 (va := -1) (if_pos rfl).symm) (fz_sto hf (by omega)) (fzS_set (fzS_set fzS_rfl (by omega)) (by omega)) (Nat.le_add_right _ _))
      · rw [sp_leaves_f h28] at hM
        refine x_ic (j := 0) C dX1_gone_31 32 rfl ?_
        exact x_zret C dX1_gone_32 (Nat.le_refl _) (Nat.le_refl _) rfl (Qp_s (by simp [sp_gone, no0, h5, ep, h17, h28]) hM hf)
end Co11
