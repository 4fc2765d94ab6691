/-! the twin: settle -/
def sq4 (A B : Mi) : Prop := ∀ b i, b ≠ 498 → b ≠ 499 → b ≠ 500 → b ≠ 501 → A b i = B b i
theorem sq4.row {A B : Mi} (h : sq4 A B) {b : Nat} (h1 : b ≠ 498) (h2 : b ≠ 499) (h3 : b ≠ 500) (h4 : b ≠ 501) : A b = B b := funext fun i => h b i h1 h2 h3 h4
theorem sq4.g {A B : Mi} (h : sq4 A B) : gq A B := by
  intro b i q
  refine h b i ?_ ?_ ?_ ?_ <;> (intro e; subst e; simp [gb] at q)
theorem sq4.tok {A B : Mi} (h : sq4 A B) (hB : Tok B) : Tok A := by
  have r := h.row (b := 473) (by decide) (by decide) (by decide) (by decide)
  have r2 := h.row (b := 485) (by decide) (by decide) (by decide) (by decide)
  unfold Tok
  rw [r, r2]
  exact hB
theorem wgt_q {A B : Mi} (h1 : A 488 = B 488) (h2 : A 490 = B 490) (n t r s : Nat) (how : Int32) : wgt A n t r s how = wgt B n t r s how := by
  have e : mvP A t (nI r) s = mvP B t (nI r) s := by funext p; unfold mvP; rw [h2]
  unfold wgt
  rw [h1, e]
theorem mv_q {A B : Mi} (h2 : A 490 = B 490) (t : Nat) (r : Int32) (s : Nat) : mvP A t r s = mvP B t r s := by funext p; unfold mvP; rw [h2]
/-- what is kept of the least -/
def lsOk (I M : Mi) (t : Nat) (how : Int32) (r s0 : Nat) : Prop := (∀ r', r < r' → r' ≤ rn I t → ∀ s, s < 1024 → M 500 (1024 * r' + s) = nI (LDI I t how (rn I t - r') s)) ∧ (∀ s, s < s0 → M 500 (1024 * r + s) = nI (LDI I t how (rn I t - r) s))
def ilB (I : Mi) (t : Nat) (how : Int32) (r s y : Nat) : Bool := decide (nd y s = 0) && !decide (LDI I t how (rn I t - (r + 1)) (nd s y) = FARn) && decide (LDI I t how (rn I t - (r + 1)) (nd s y) + wN I t how r y = LDI I t how (rn I t - r) s)
theorem nI_dec (r : Nat) : nI r + Int32.ofInt (-1) = nI r - nI 1 := by
  rw [Int32.sub_eq_add_neg]; rfl
theorem mP_lt {I : Mi} {t r y : Nat} (hp : pn I ≤ 10) (h : mP I t r y = true) : y < 1024 := by
  unfold mP at h
  simp only [Bool.and_eq_true, decide_eq_true_eq] at h
  have := nd0.mp h.1
  apply Nat.lt_pow_two_of_testBit (n := 10)
  intro i hi
  cases e : y.testBit i with
  | false => rfl
  | true =>
    have h2 := this i e
    unfold al at h2
    rw [msk_bit] at h2
    simp at h2
    omega
theorem noteT_501 (I : Mi) (t p : Nat) (r : Int32) (i : Nat) : noteT I t p r 501 i = I 501 i := by
  unfold noteT
  split
  · rfl
  · rw [noteS_row _ _ _ _ (by decide)]
theorem gq_noteT {A B : Mi} (h : gq A B) (t p : Nat) (r : Int32) : gq (noteT A t p r) (noteT B t p r) := by
  unfold noteT
  rw [h 490 (10 * t + p) rfl]
  split
  · exact h
  · unfold noteS
    rw [h 473 26 rfl, h 473 14 rfl]
    exact gq_sto (gq_sto (gq_sto (gq_sto (gq_sto h _ _ _) _ _ _) _ _ _) _ _ _) _ _ _
theorem ntS_1 (I : Mi) (t : Nat) (fr : Nat → Int32) : ∀ p, ntS I t fr p 473 1 = I 473 1
  | 0 => rfl
  | p + 1 => by
    rw [ntS]
    unfold noteT
    split
    · exact ntS_1 I t fr p
    · rw [noteS_473 _ _ _ _ (by decide)]; exact ntS_1 I t fr p
theorem ntS_l (I : Mi) (t : Nat) (fr : Nat → Int32) : ∀ (p : Nat) {q : Nat}, p ≤ q → q < 10 → ntS I t fr p 490 (10 * t + q) = I 490 (10 * t + q)
  | 0, _, _, _ => rfl
  | p + 1, q, h, hq => by
    rw [ntS]
    unfold noteT
    split
    · exact ntS_l I t fr p (by omega) hq
    · rw [noteS_list, if_neg (by omega)]; exact ntS_l I t fr p (by omega) hq
theorem ntS_26 (I : Mi) (t : Nat) (fr : Nat → Int32) {k : Nat} (hk : I 473 26 = nI k) : ∀ p, p ≤ 10 → ntS I t fr p 473 26 = nI (k + cnt (fun p => !decide (fr p = I 490 (10 * t + p))) p)
  | 0, _ => hk
  | p + 1, hp => by
    have ih := ntS_26 I t fr hk p (by omega)
    have hl := ntS_l I t fr p (Nat.le_refl p) (by omega)
    rw [ntS]
    unfold noteT
    rw [hl]
    split
    · rename_i h
      rw [ih, cnt_f (by simp [h])]
    · rename_i h
      rw [noteS_cnt, ih, cnt_t (by simp; exact fun q => h q.symm), nI_add, Nat.add_assoc]
theorem ntS_lt (I : Mi) (t : Nat) (fr : Nat → Int32) {p : Nat} (hp : p < pn I) (h : ¬ fr p = I 490 (10 * t + p)) : cnt (fun p => !decide (fr p = I 490 (10 * t + p))) p < cnt (fun p => !decide (fr p = I 490 (10 * t + p))) (pn I) := by
  have h1 := cnt_t (P := fun p => !decide (fr p = I 490 (10 * t + p))) (k := p) (by simp [h])
  have h2 := cnt_mono (fun p => !decide (fr p = I 490 (10 * t + p))) (show p + 1 ≤ pn I by omega)
  omega
section Tw21
variable {w : Wd} {l : Launch} {S : Sh} {I M : Mi} {J : Ml}
theorem kX3_isLeast (hS : twS S) (hI : Tok I) {t r s y : Nat} {how : Int32} (ht : t < 6) (hr : r < rn I t) (hs : s < 1024) (hy : y < 1024) (hpr : prOk I t) (hM : sq4 M I) (hls : ∀ r', r' ≤ rn I t → ∀ s, s < 1024 → M 500 (1024 * r' + s) = nI (LDI I t how (rn I t - r') s)) : Ct w l yX3_isLeast cX3_isLeast 7 (some .boolean) 3 0 0 [.ref 473, .int (nI t), .int (nI r), .int (nI s), .int (nI y), .int how] S M J (Qe (some (.int (bz (ilB I t how r s y)))) S M J) := by
  have hp10 := tk_p2 hI
  have hr10 := tk_r2 hI ht
  have r1 : M 473 1 = nI (pn I) := (hM 473 1 (by decide) (by decide) (by decide) (by decide)).trans (tk_p hI)
  have r488 := hM.row (b := 488) (by decide) (by decide) (by decide) (by decide)
  have r490 := hM.row (b := 490) (by decide) (by decide) (by decide) (by decide)
  have hnd : nd s y < 1024 := nd_lt (n := 10) hs
  have hnd2 : nd y s < 1024 := nd_lt (n := 10) hy
  have hD1 := LDI_b hp10 hpr how (show rn I t - (r + 1) ≤ rn I t by omega) (nd s y)
  have hD2 := LDI_b hp10 hpr how (show rn I t - r ≤ rn I t by omega) s
  have hw := wN_ok hp10 hpr hr y how
  have hFAR : FARn = 1073741824 := rfl
  have hD1c : LDI I t how (rn I t - (r + 1)) (nd s y) ≤ FARn := by rcases hD1 with h | h <;> omega
  have hD2c : LDI I t how (rn I t - r) s ≤ FARn := by rcases hD2 with h | h <;> omega
  refine Ct.of [some _, some _, some _, some _, some _, some _, none] rfl (Nat.le_of_ble_eq_true rfl) (by decide) ?_
  intro κ hκ C
  subst hκ
  refine x_iload C dX3_isLeast_0 2 rfl rfl ?_
  refine x_iload_n C dX3_isLeast_2 3 rfl rfl ?_
  refine x_icm C dX3_isLeast_3 4 rfl ?_
  refine x_ixor C dX3_isLeast_4 5 rfl rfl ?_
  refine x_iand C dX3_isLeast_5 6 rfl (nI_nd _ _) ?_
  refine x_ifeqN C dX3_isLeast_6 9 11 rfl (by decide) (by omega) (fun h6 => ?_) (fun h6 => ?_)
  · refine x_aloadr_n C dX3_isLeast_11 12 rfl rfl ?_
    refine x_getr C fl_X3_96 (Or.inr ⟨_, rfl⟩) dX3_isLeast_12 15 rfl hS.1 (twR_least hS) ?_
    refine x_sip (j := 1024) C dX3_isLeast_15 18 rfl (by decide) ?_
    refine x_iload_n C dX3_isLeast_18 19 rfl rfl ?_
    refine x_ic (j := 1) C dX3_isLeast_19 20 rfl ?_
    refine x_iadd C dX3_isLeast_20 21 rfl (nI_add _ _) ?_
    refine x_imul C dX3_isLeast_21 22 rfl (pk_mul _ _) ?_
    refine x_iload_n C dX3_isLeast_22 23 rfl rfl ?_
    refine x_iload C dX3_isLeast_23 25 rfl rfl ?_
    refine x_icm C dX3_isLeast_25 26 rfl ?_
    refine x_ixor C dX3_isLeast_26 27 rfl rfl ?_
    refine x_iand C dX3_isLeast_27 28 rfl (nI_nd _ _) ?_
    refine x_iadd C dX3_isLeast_28 29 rfl (nI_add _ _) ?_
    refine x_iald C dX3_isLeast_29 30 rfl (twA_least hS) (twN_least hS) rfl (by omega) (by decide) (hls (r + 1) (by omega) _ hnd) ?_
    refine x_istore C dX3_isLeast_30 32 rfl [_, _, _, _, _, _, _] (by decide) rfl rfl ?_
    refine x_iload C dX3_isLeast_32 34 rfl rfl ?_
    refine x_ldcN (j := 1073741824) C dX3_isLeast_34 36 rfl q1560 (by decide) ?_
    refine x_icmpeqN C dX3_isLeast_36 39 71 rfl (by decide) (by omega) (by omega) (fun h36 => ?_) (fun h36 => ?_)
    · refine x_ic (j := 0) C dX3_isLeast_71 72 rfl ?_
      exact x_zret C dX3_isLeast_72 (Nat.le_refl _) (Nat.le_refl _) rfl (Qz_of (by simp [ilB, bzt, bzf, h6, h36]))
    · refine x_iload C dX3_isLeast_39 41 rfl rfl ?_
      refine x_aloadr_n C dX3_isLeast_41 42 rfl rfl ?_
      refine x_iload_n C dX3_isLeast_42 43 rfl rfl ?_
      refine x_iload_n C dX3_isLeast_43 44 rfl rfl ?_
      refine x_iload C dX3_isLeast_44 46 rfl rfl ?_
      refine x_iload C dX3_isLeast_46 48 rfl rfl ?_
      refine x_callV C lk_X3_232 dX3_isLeast_48 51 rfl [_, _, _, _] [_] rfl rfl hS.1 (Nat.le_of_ble_eq_true rfl) (by decide) (Nat.le_refl _) (Nat.le_refl _) (kX3_weight hS r1 hp10 ht (by omega) (by omega)) ?_
      rintro _ _ _ _ ⟨rfl, rfl, rfl, rfl⟩
      rw [wgt_q r488 r490, hw.1]
      refine x_iadd C dX3_isLeast_51 52 rfl (nI_add _ _) ?_
      refine x_aloadr_n C dX3_isLeast_52 53 rfl rfl ?_
      refine x_getr C fl_X3_96 (Or.inr ⟨_, rfl⟩) dX3_isLeast_53 56 rfl hS.1 (twR_least hS) ?_
      refine x_sip (j := 1024) C dX3_isLeast_56 59 rfl (by decide) ?_
      refine x_iload_n C dX3_isLeast_59 60 rfl rfl ?_
      refine x_imul C dX3_isLeast_60 61 rfl (pk_mul _ _) ?_
      refine x_iload_n C dX3_isLeast_61 62 rfl rfl ?_
      refine x_iadd C dX3_isLeast_62 63 rfl (nI_add _ _) ?_
      refine x_iald C dX3_isLeast_63 64 rfl (twA_least hS) (twN_least hS) rfl (by omega) (by decide) (hls r (by omega) _ hs) ?_
      refine x_icmpneN C dX3_isLeast_64 67 71 rfl (by decide) (by omega) (by omega) (fun h64 => ?_) (fun h64 => ?_)
      · refine x_ic (j := 0) C dX3_isLeast_71 72 rfl ?_
        exact x_zret C dX3_isLeast_72 (Nat.le_refl _) (Nat.le_refl _) rfl (Qz_of (by simp [ilB, bzt, bzf, h6, h36, h64]))
      · refine x_ic (j := 1) C dX3_isLeast_67 68 rfl ?_
        refine x_goto C dX3_isLeast_68 72 (by decide) ?_
        exact x_zret C dX3_isLeast_72 (Nat.le_refl _) (Nat.le_refl _) rfl (Qz_of (by simp [ilB, bzt, bzf, h6, h36, h64]))
  · refine x_ic (j := 0) C dX3_isLeast_9 10 rfl ?_
    exact x_zret C dX3_isLeast_10 (Nat.le_refl _) (Nat.le_refl _) rfl (Qz_of (by simp [ilB, bzt, bzf, h6]))
theorem kX3_takes (hS : twS S) (hI : Tok I) {t : Nat} {how : Int32} (ht : t < 6) (hpr : prOk I t) (hbe : bedsOk I t) (hM0 : sq4 M I) (hls0 : ∀ r', r' ≤ rn I t → ∀ s, s < 1024 → M 500 (1024 * r' + s) = nI (LDI I t how (rn I t - r') s)) (hma0 : ∀ r, r < rn I t → maOk I M t r) (hD : ¬ LDI I t how (rn I t) (al I t) = FARn) : Ct w l yX3_takes cX3_takes 11 (some .int) 4 0 0 [.ref 473, .int (nI t), .int how, .int (nI (al I t))] S M J (Qg (tkS I t how) S J) := by
  have hp10 := tk_p2 hI
  have hr10 := tk_r2 hI ht
  have hn500 := tk_n2 hI
  have hst := st_ok hp10 hD
  refine Ct.of [some _, some _, some _, some _, none, none, none, none, none, none, none] rfl (Nat.le_of_ble_eq_true rfl) (by decide) ?_
  intro κ hκ C
  subst hκ
  -- the notes
  have hN : ∀ (j p : Nat) (M : Mi) (fr : Nat → Int32) (cI : Int32) (x7 x9 x10 x4 : Option Value), p + j = pn I → fr = fqN I t how (rn I t) → nn I + chN I t fr ≤ 500 → gq M (ntS I t fr p) → (∀ i, i < pn I → M 501 i = fr i) → XX w κ (Zr w κ (Qg (tkS I t how) S J)) 0 0 273 [some (.ref 473), some (.int (nI t)), some (.int how), some (.int (nI (al I t))), none, some (.int (csT I t how (rn I t))), some (.int (nI (mvT I t how (rn I t)))), none, some (.int (nI p)), none, none] [] S M J := by
    intro j
    induction j with
    | zero =>
      intro p M fr cI x7 x9 x10 x4 hp hfr hch hM h501
      have hp : pn I = p := Eq.symm hp
      subst hp
      refine x_iload C dX3_takes_273 275 rfl rfl ?_
      refine x_aloadr_n C dX3_takes_275 276 rfl rfl ?_
      refine x_geti C fl_X3_157 (Or.inl rfl) dX3_takes_276 279 rfl hS.1 ((hM 473 1 rfl).trans ((ntS_1 I t fr _).trans (tk_p hI))) ?_
      refine x_icmpgeN C dX3_takes_279 282 302 rfl (by decide) (by omega) (by omega) (fun _ => ?_) (fun h279 => absurd h279 (by omega))
      refine x_aloadr_n C dX3_takes_302 303 rfl rfl ?_
      refine x_iload C dX3_takes_303 305 rfl rfl ?_
      refine x_puti C fl_X3_99 (Or.inl rfl) (Or.inl rfl) dX3_takes_305 308 rfl hS.1 ?_
      refine x_iload C dX3_takes_308 310 rfl rfl ?_
      exact x_iret C dX3_takes_310 (Nat.le_refl _) (Nat.le_refl _) (Qg_of (A := sto (ntS I t (fqN I t how (rn I t)) (pn I)) 473 37 (nI (mvT I t how (rn I t)))) (by unfold tkS; rw [if_pos (by rw [← hfr]; exact hch)]) (by rw [← hfr]; exact gq_sto hM _ _ _) (jq_refl _))
    | succ j ih =>
      intro p M fr cI x7 x9 x10 x4 hp hfr hch hM h501
      have hk := ntS_26 I t fr (tk_n hI) p (by omega)
      have hl := ntS_l I t fr p (show p ≤ p from Nat.le_refl _) (by omega)
      refine x_iload C dX3_takes_273 275 rfl rfl ?_
      refine x_aloadr_n C dX3_takes_275 276 rfl rfl ?_
      refine x_geti C fl_X3_157 (Or.inl rfl) dX3_takes_276 279 rfl hS.1 ((hM 473 1 rfl).trans ((ntS_1 I t fr _).trans (tk_p hI))) ?_
      refine x_icmpgeN C dX3_takes_279 282 302 rfl (by decide) (by omega) (by omega) (fun h279 => absurd h279 (by omega)) (fun _ => ?_)
      refine x_aloadr_n C dX3_takes_282 283 rfl rfl ?_
      refine x_iload_n C dX3_takes_283 284 rfl rfl ?_
      refine x_iload C dX3_takes_284 286 rfl rfl ?_
      refine x_aloadr_n C dX3_takes_286 287 rfl rfl ?_
      refine x_getr C fl_X3_102 (Or.inr ⟨_, rfl⟩) dX3_takes_287 290 rfl hS.1 (twR_fresh hS) ?_
      refine x_iload C dX3_takes_290 292 rfl rfl ?_
      refine x_iald C dX3_takes_292 293 rfl (twA_fresh hS) (twN_fresh hS) rfl (by omega) (by decide) (h501 p (by omega)) ?_
      refine x_callV C lk_X3_186 dX3_takes_293 296 rfl [_, _, _] [] rfl rfl hS.1 (Nat.le_of_ble_eq_true rfl) (by decide) (Nat.le_refl _) (Nat.le_refl _) (kX3_notes hS ht (by omega) ((hM 473 26 rfl).trans hk) (fun hne => by have := ntS_lt I t fr (p := p) (by omega) (by rw [← hl, ← hM 490 (10 * t + p) rfl]; exact fun q => hne q.symm); have : cnt (fun p => !decide (fr p = I 490 (10 * t + p))) (pn I) = chN I t fr := rfl; omega)) ?_
      rintro _ _ _ _ ⟨rfl, rfl, rfl, rfl⟩
      refine x_iinc C dX3_takes_296 299 rfl [_, _, _, _, _, _, _, _, _, _, _] (nI_inc _) (by decide) rfl rfl rfl ?_
      refine x_goto C dX3_takes_299 273 (by decide) ?_
      refine ih (p + 1) _ fr cI x7 x9 x10 x4 (by omega) hfr hch ?_ (fun i hi => ?_)
      · exact gq_noteT hM t p (fr p)
      · rw [noteT_501]; exact h501 i hi
  -- the changes
  have hC : ∀ (j p c : Nat) (M : Mi) (fr : Nat → Int32), p + j = pn I → fr = fqN I t how (rn I t) → c = cnt (fun p => !decide (fr p = I 490 (10 * t + p))) p → sq4 M I → (∀ i, i < pn I → M 501 i = fr i) → XX w κ (Zr w κ (Qg (tkS I t how) S J)) 0 0 208 [some (.ref 473), some (.int (nI t)), some (.int how), some (.int (nI (al I t))), none, some (.int (csT I t how (rn I t))), some (.int (nI (mvT I t how (rn I t)))), some (.int (nI c)), some (.int (nI p)), none, none] [] S M J := by
    intro j
    induction j with
    | zero =>
      intro p c M fr hp hfr hc hM h501
      have hp : pn I = p := Eq.symm hp
      subst hp
      have hcc : c = chN I t fr := hc
      have hcle : c ≤ pn I := hc ▸ cnt_le _ _
      refine x_iload C dX3_takes_208 210 rfl rfl ?_
      refine x_aloadr_n C dX3_takes_210 211 rfl rfl ?_
      refine x_geti C fl_X3_157 (Or.inl rfl) dX3_takes_211 214 rfl hS.1 ((hM 473 1 (by decide) (by decide) (by decide) (by decide)).trans (tk_p hI)) ?_
      refine x_icmpgeN C dX3_takes_214 217 255 rfl (by decide) (by omega) (by omega) (fun _ => ?_) (fun h214 => absurd h214 (by omega))
      refine x_aloadr_n C dX3_takes_255 256 rfl rfl ?_
      refine x_geti C fl_X3_180 (Or.inl rfl) dX3_takes_256 259 rfl hS.1 ((hM 473 26 (by decide) (by decide) (by decide) (by decide)).trans (tk_n hI)) ?_
      refine x_iload C dX3_takes_259 261 rfl rfl ?_
      refine x_iadd C dX3_takes_261 262 rfl (nI_add _ _) ?_
      refine x_sip (j := 500) C dX3_takes_262 265 rfl (by decide) ?_
      refine x_icmpleN C dX3_takes_265 268 270 rfl (by decide) (by omega) (by omega) (fun h265 => ?_) (fun h265 => ?_)
      · refine x_ic (j := 0) C dX3_takes_270 271 rfl ?_
        refine x_istore C dX3_takes_271 273 rfl [_, _, _, _, _, _, _, _, _, _, _] (by decide) rfl rfl ?_
        refine x_ls [some _, some _, some _, some _, none, some _, some _, none, some _, none, none] ⟨rfl, rfl, rfl, rfl, rfl, rfl, rfl, trivial⟩ ?_
        exact hN (pn I) 0 M fr 0 none none none none (Nat.zero_add _) hfr (by rw [← hcc]; omega) hM.g h501
      · refine x_icm C dX3_takes_268 269 rfl ?_
        exact x_iret C dX3_takes_269 (Nat.le_refl _) (Nat.le_refl _) (Qg_of (A := I) (by unfold tkS; rw [if_neg (by rw [← hfr, ← hcc]; omega)]; rfl) hM.g (jq_refl _))
    | succ j ih =>
      intro p c M fr hp hfr hc hM h501
      refine x_iload C dX3_takes_208 210 rfl rfl ?_
      refine x_aloadr_n C dX3_takes_210 211 rfl rfl ?_
      refine x_geti C fl_X3_157 (Or.inl rfl) dX3_takes_211 214 rfl hS.1 ((hM 473 1 (by decide) (by decide) (by decide) (by decide)).trans (tk_p hI)) ?_
      refine x_icmpgeN C dX3_takes_214 217 255 rfl (by decide) (by omega) (by omega) (fun h214 => absurd h214 (by omega)) (fun _ => ?_)
      refine x_iload C dX3_takes_217 219 rfl rfl ?_
      refine x_aloadr_n C dX3_takes_219 220 rfl rfl ?_
      refine x_getr C fl_X3_102 (Or.inr ⟨_, rfl⟩) dX3_takes_220 223 rfl hS.1 (twR_fresh hS) ?_
      refine x_iload C dX3_takes_223 225 rfl rfl ?_
      refine x_iald C dX3_takes_225 226 rfl (twA_fresh hS) (twN_fresh hS) rfl (by omega) (by decide) (h501 p (by omega)) ?_
      refine x_aloadr_n C dX3_takes_226 227 rfl rfl ?_
      refine x_getr C fl_X3_66 (Or.inr ⟨_, rfl⟩) dX3_takes_227 230 rfl hS.1 (twR_list hS) ?_
      refine x_bip (j := 10) C dX3_takes_230 232 rfl (by decide) ?_
      refine x_iload_n C dX3_takes_232 233 rfl rfl ?_
      refine x_imul C dX3_takes_233 234 rfl (pk_mul _ _) ?_
      refine x_iload C dX3_takes_234 236 rfl rfl ?_
      refine x_iadd C dX3_takes_236 237 rfl (nI_add _ _) ?_
      refine x_iald C dX3_takes_237 238 rfl (twA_list hS) (twN_list hS) rfl (by omega) (by decide) (hM 490 _ (by decide) (by decide) (by decide) (by decide)) ?_
      refine x_icmpeq C dX3_takes_238 241 245 rfl (by decide) (fun h238 => ?_) (fun h238 => ?_)
      · refine x_ic (j := 0) C dX3_takes_245 246 rfl ?_
        refine x_iadd C dX3_takes_246 247 rfl (nI_add _ _) ?_
        refine x_istore C dX3_takes_247 249 rfl [_, _, _, _, _, _, _, _, _, _, _] (by decide) rfl rfl ?_
        refine x_iinc C dX3_takes_249 252 rfl [_, _, _, _, _, _, _, _, _, _, _] (nI_inc _) (by decide) rfl rfl rfl ?_
        refine x_goto C dX3_takes_252 208 (by decide) ?_
        exact ih (p + 1) _ M fr (by omega) hfr (by first | (rw [cnt_f (by simp [h238]), hc]; rfl) | (rw [cnt_t (by simp [h238]), hc])) hM h501
      · refine x_ic (j := 1) C dX3_takes_241 242 rfl ?_
        refine x_goto C dX3_takes_242 246 (by decide) ?_
        refine x_iadd C dX3_takes_246 247 rfl (nI_add _ _) ?_
        refine x_istore C dX3_takes_247 249 rfl [_, _, _, _, _, _, _, _, _, _, _] (by decide) rfl rfl ?_
        refine x_iinc C dX3_takes_249 252 rfl [_, _, _, _, _, _, _, _, _, _, _] (nI_inc _) (by decide) rfl rfl rfl ?_
        refine x_goto C dX3_takes_252 208 (by decide) ?_
        exact ih (p + 1) _ M fr (by omega) hfr (by first | (rw [cnt_f (by simp [h238]), hc]; rfl) | (rw [cnt_t (by simp [h238]), hc])) hM h501
  -- the rooms
  have hR : ∀ (j r : Nat) (M : Mi), r + j = rn I t → sq4 M I → (∀ r', r' ≤ rn I t → ∀ s, s < 1024 → M 500 (1024 * r' + s) = nI (LDI I t how (rn I t - r') s)) → (∀ r, r < rn I t → maOk I M t r) → (∀ i, i < pn I → M 501 i = fqN I t how r i) → XX w κ (Zr w κ (Qg (tkS I t how) S J)) 0 0 38 [some (.ref 473), some (.int (nI t)), some (.int how), some (.int (nI (al I t))), some (.int (nI (stN I t how r))), some (.int (csT I t how r)), some (.int (nI (mvT I t how r))), some (.int (nI r)), none, none, none] [] S M J := by
    intro j
    induction j with
    | zero =>
      intro r M hr hM hls hma h501
      have hr : rn I t = r := Eq.symm hr
      subst hr
      refine x_iload C dX3_takes_38 40 rfl rfl ?_
      refine x_aloadr_n C dX3_takes_40 41 rfl rfl ?_
      refine x_getr C fl_X3_51 (Or.inr ⟨_, rfl⟩) dX3_takes_41 44 rfl hS.1 (twR_rooms hS) ?_
      refine x_iload_n C dX3_takes_44 45 rfl rfl ?_
      refine x_iald C dX3_takes_45 46 rfl (twA_rooms hS) (twN_rooms hS) rfl (by omega) (by decide) ((hM 485 t (by decide) (by decide) (by decide) (by decide)).trans (tk_r hI ht)) ?_
      refine x_icmpgeN C dX3_takes_46 49 202 rfl (by decide) (by omega) (by omega) (fun _ => ?_) (fun h46 => absurd h46 (by omega))
      refine x_ic (j := 0) C dX3_takes_202 203 rfl ?_
      refine x_istore C dX3_takes_203 205 rfl [_, _, _, _, _, _, _, _, _, _, _] (by decide) rfl rfl ?_
      refine x_ic (j := 0) C dX3_takes_205 206 rfl ?_
      refine x_istore C dX3_takes_206 208 rfl [_, _, _, _, _, _, _, _, _, _, _] (by decide) rfl rfl ?_
      refine x_ls [some _, some _, some _, some _, none, some _, some _, some _, some _, none, none] ⟨rfl, rfl, rfl, rfl, rfl, rfl, rfl, rfl, trivial⟩ ?_
      exact hC (pn I) 0 0 M _ (Nat.zero_add _) rfl rfl hM h501
    | succ j ih =>
      intro r M hr hM hls hma h501
      have hrr : r < rn I t := by omega
      obtain ⟨hs1, hs2⟩ := hst r (by omega)
      obtain ⟨hk1, hk2⟩ := pk_ok hrr hs2
      obtain ⟨m1, m2⟩ := hma r hrr
      have hkm := (pkP_D hk2).1
      have hpos : ∀ x, x < 1024 → mP I t r x = true → 64 * r + cnt (mP I t r) x < 640 := by
        intro x hx hpx
        obtain ⟨b, hb1, hb2⟩ := hbe r hrr
        have := mP_cnt hp10 hb2 hb1 (show x ≤ 1024 by omega)
        omega
      have h102 : ∀ (j p : Nat) (M : Mi) (x8 : Option Value), p + j = pn I → sq4 M I → (∀ r', r' ≤ rn I t → ∀ s, s < 1024 → M 500 (1024 * r' + s) = nI (LDI I t how (rn I t - r') s)) → (∀ r, r < rn I t → maOk I M t r) → (∀ i, i < pn I → M 501 i = if i < p then fqN I t how (r + 1) i else fqN I t how r i) → XX w κ (Zr w κ (Qg (tkS I t how) S J)) 0 0 102 [some (.ref 473), some (.int (nI t)), some (.int how), some (.int (nI (al I t))), some (.int (nI (stN I t how r))), some (.int (csT I t how r)), some (.int (nI (mvT I t how r))), some (.int (nI r)), none, some (.int (nI (pkN I t how r (stN I t how r)))), some (.int (nI p))] [] S M J := by
        intro j
        induction j with
        | zero =>
          intro p M x8 hp hM hls hma h501
          have hp : pn I = p := Eq.symm hp
          subst hp
          have r490 := hM.row (b := 490) (by decide) (by decide) (by decide) (by decide)
          refine x_iload C dX3_takes_102 104 rfl rfl ?_
          refine x_aloadr_n C dX3_takes_104 105 rfl rfl ?_
          refine x_geti C fl_X3_157 (Or.inl rfl) dX3_takes_105 108 rfl hS.1 ((hM 473 1 (by decide) (by decide) (by decide) (by decide)).trans (tk_p hI)) ?_
          refine x_icmpgeN C dX3_takes_108 111 147 rfl (by decide) (by omega) (by omega) (fun _ => ?_) (fun h108 => absurd h108 (by omega))
          refine x_iload C dX3_takes_147 149 rfl rfl ?_
          refine x_iload C dX3_takes_149 151 rfl rfl ?_
          apply x_jN (pj := 170) (fun kt kf => x_ifneN C dX3_takes_151 154 158 rfl (by decide) (by omega) kt kf)
          case ht =>
            intro K
            refine x_aloadr_n C dX3_takes_158 159 rfl rfl ?_
            refine x_getr C fl_X3_60 (Or.inr ⟨_, rfl⟩) dX3_takes_159 162 rfl hS.1 (twR_price hS) ?_
            refine x_bip (j := 10) C dX3_takes_162 164 rfl (by decide) ?_
            refine x_iload_n C dX3_takes_164 165 rfl rfl ?_
            refine x_imul C dX3_takes_165 166 rfl (pk_mul _ _) ?_
            refine x_iload C dX3_takes_166 168 rfl rfl ?_
            refine x_iadd C dX3_takes_168 169 rfl (nI_add _ _) ?_
            refine x_iald C dX3_takes_169 170 rfl (twA_price hS) (twN_price hS) rfl (by omega) (by decide) (hM 488 _ (by decide) (by decide) (by decide) (by decide)) ?_
            exact K
          case hf =>
            intro K
            refine x_ic (j := 0) C dX3_takes_154 155 rfl ?_
            refine x_goto C dX3_takes_155 170 (by decide) ?_
            exact K
          refine x_iadd C dX3_takes_170 171 rfl rfl ?_
          refine x_istore C dX3_takes_171 173 rfl [_, _, _, _, _, _, _, _, _, _, _] (by decide) rfl rfl ?_
          refine x_iload C dX3_takes_173 175 rfl rfl ?_
          refine x_aloadr_n C dX3_takes_175 176 rfl rfl ?_
          refine x_iload_n C dX3_takes_176 177 rfl rfl ?_
          refine x_iload C dX3_takes_177 179 rfl rfl ?_
          refine x_iload C dX3_takes_179 181 rfl rfl ?_
          refine x_callV C lk_X3_222 dX3_takes_181 184 rfl [_, _, _] [_] rfl rfl hS.1 (Nat.le_of_ble_eq_true rfl) (by decide) (Nat.le_refl _) (Nat.le_refl _) (kX3_movedBy hS ((hM 473 1 (by decide) (by decide) (by decide) (by decide)).trans (tk_p hI)) hp10 ht (by omega)) ?_
          rintro _ _ _ _ ⟨rfl, rfl, rfl, rfl⟩
          rw [mv_q r490]
          refine x_iadd C dX3_takes_184 185 rfl (nI_add _ _) ?_
          refine x_istore C dX3_takes_185 187 rfl [_, _, _, _, _, _, _, _, _, _, _] (by decide) rfl rfl ?_
          refine x_iload C dX3_takes_187 189 rfl rfl ?_
          refine x_iload C dX3_takes_189 191 rfl rfl ?_
          refine x_icm C dX3_takes_191 192 rfl ?_
          refine x_ixor C dX3_takes_192 193 rfl rfl ?_
          refine x_iand C dX3_takes_193 194 rfl (nI_nd _ _) ?_
          refine x_istore C dX3_takes_194 196 rfl [_, _, _, _, _, _, _, _, _, _, _] (by decide) rfl rfl ?_
          refine x_iinc C dX3_takes_196 199 rfl [_, _, _, _, _, _, _, _, _, _, _] (nI_inc _) (by decide) rfl rfl rfl ?_
          refine x_goto C dX3_takes_199 38 (by decide) ?_
          refine x_ls [some _, some _, some _, some _, some _, some _, some _, some _, none, none, none] ⟨rfl, rfl, rfl, rfl, rfl, rfl, rfl, rfl, trivial⟩ ?_
          exact ih (r + 1) M (by omega) hM hls hma (fun i hi => by rw [h501 i hi, if_pos hi])
        | succ j ih2 =>
          intro p M x8 hp hM hls hma h501
          refine x_iload C dX3_takes_102 104 rfl rfl ?_
          refine x_aloadr_n C dX3_takes_104 105 rfl rfl ?_
          refine x_geti C fl_X3_157 (Or.inl rfl) dX3_takes_105 108 rfl hS.1 ((hM 473 1 (by decide) (by decide) (by decide) (by decide)).trans (tk_p hI)) ?_
          refine x_icmpgeN C dX3_takes_108 111 147 rfl (by decide) (by omega) (by omega) (fun h108 => absurd h108 (by omega)) (fun _ => ?_)
          refine x_aloadr_n C dX3_takes_111 112 rfl rfl ?_
          refine x_getr C fl_X3_102 (Or.inr ⟨_, rfl⟩) dX3_takes_112 115 rfl hS.1 (twR_fresh hS) ?_
          refine x_iload C dX3_takes_115 117 rfl rfl ?_
          refine x_iload C dX3_takes_117 119 rfl rfl ?_
          refine x_iload C dX3_takes_119 121 rfl rfl ?_
          refine x_ishr C dX3_takes_121 122 rfl (nI_shrp _ _ (by omega) (by omega)) ?_
          refine x_ic (j := 1) C dX3_takes_122 123 rfl ?_
          refine x_iand C dX3_takes_123 124 rfl (nI_bit _ _) ?_
          refine x_ic (j := 1) C dX3_takes_124 125 rfl ?_
          refine x_icmpneN C dX3_takes_125 128 133 rfl (by decide) (by have := bit_lt (pkN I t how r (stN I t how r)) p; omega) (by decide) (fun h125 => ?_) (fun h125 => ?_)
          · have e125 : (pkN I t how r (stN I t how r)).testBit p = false := by cases e : (pkN I t how r (stN I t how r)).testBit p with | false => rfl | true => exact absurd ((bit_1 _ _).mpr e) h125
            refine x_aloadr_n C dX3_takes_133 134 rfl rfl ?_
            refine x_getr C fl_X3_102 (Or.inr ⟨_, rfl⟩) dX3_takes_134 137 rfl hS.1 (twR_fresh hS) ?_
            refine x_iload C dX3_takes_137 139 rfl rfl ?_
            refine x_iald C dX3_takes_139 140 rfl (twA_fresh hS) (twN_fresh hS) rfl (by omega) (by decide) ((h501 p (by omega)).trans (if_neg (Nat.lt_irrefl p))) ?_
            refine x_iast C dX3_takes_140 141 rfl (twA_fresh hS) (twN_fresh hS) rfl (by omega) (by decide) ?_
            refine x_iinc C dX3_takes_141 144 rfl [_, _, _, _, _, _, _, _, _, _, _] (nI_inc _) (by decide) rfl rfl rfl ?_
            refine x_goto C dX3_takes_144 102 (by decide) ?_
            refine ih2 (p + 1) _ x8 (by omega) (fun b i q1 q2 q3 q4 => by rw [sto_n _ _ _ q4]; exact hM b i q1 q2 q3 q4) (fun r' q1 s q2 => by rw [sto_n _ _ _ (by decide)]; exact hls r' q1 s q2) (fun r' q => ⟨by rw [sto_n _ _ _ (by decide)]; exact (hma r' q).1, fun x q1 q2 => by rw [sto_n _ _ _ (by decide)]; exact (hma r' q).2 x q1 q2⟩) (fun i hi => ?_)
            rw [sto_at]
            by_cases e : i = p
            · subst e
              rw [if_pos ⟨rfl, rfl⟩, if_pos (by omega), fqN]
              first | rw [if_pos e125] | rw [if_neg (by rw [e125]; decide)]
            · rw [if_neg (fun q => e q.2), h501 i hi]
              have : (i < p + 1) ↔ (i < p) := by omega
              simp only [this]
          · have e125 := (bit_1 _ _).mp h125
            refine x_iload C dX3_takes_128 130 rfl rfl ?_
            refine x_goto C dX3_takes_130 140 (by decide) ?_
            refine x_iast C dX3_takes_140 141 rfl (twA_fresh hS) (twN_fresh hS) rfl (by omega) (by decide) ?_
            refine x_iinc C dX3_takes_141 144 rfl [_, _, _, _, _, _, _, _, _, _, _] (nI_inc _) (by decide) rfl rfl rfl ?_
            refine x_goto C dX3_takes_144 102 (by decide) ?_
            refine ih2 (p + 1) _ x8 (by omega) (fun b i q1 q2 q3 q4 => by rw [sto_n _ _ _ q4]; exact hM b i q1 q2 q3 q4) (fun r' q1 s q2 => by rw [sto_n _ _ _ (by decide)]; exact hls r' q1 s q2) (fun r' q => ⟨by rw [sto_n _ _ _ (by decide)]; exact (hma r' q).1, fun x q1 q2 => by rw [sto_n _ _ _ (by decide)]; exact (hma r' q).2 x q1 q2⟩) (fun i hi => ?_)
            rw [sto_at]
            by_cases e : i = p
            · subst e
              rw [if_pos ⟨rfl, rfl⟩, if_pos (by omega), fqN]
              first | rw [if_pos e125] | rw [if_neg (by rw [e125]; decide)]
            · rw [if_neg (fun q => e q.2), h501 i hi]
              have : (i < p + 1) ↔ (i < p) := by omega
              simp only [this]
      have h52 : ∀ (j y : Nat), y ≤ pkN I t how r (stN I t how r) → pkN I t how r (stN I t how r) - y ≤ j → XX w κ (Zr w κ (Qg (tkS I t how) S J)) 0 0 52 [some (.ref 473), some (.int (nI t)), some (.int how), some (.int (nI (al I t))), some (.int (nI (stN I t how r))), some (.int (csT I t how r)), some (.int (nI (mvT I t how r))), some (.int (nI r)), some (.int (nI (cnt (mP I t r) y))), none, none] [] S M J := by
        intro j
        induction j with
        | zero =>
          intro y hy hj
          have hy : y = pkN I t how r (stN I t how r) := by omega
          subst hy
          refine x_aloadr_n C dX3_takes_52 53 rfl rfl ?_
          refine x_iload_n C dX3_takes_53 54 rfl rfl ?_
          refine x_iload C dX3_takes_54 56 rfl rfl ?_
          refine x_iload C dX3_takes_56 58 rfl rfl ?_
          refine x_aloadr_n C dX3_takes_58 59 rfl rfl ?_
          refine x_getr C fl_X3_90 (Or.inr ⟨_, rfl⟩) dX3_takes_59 62 rfl hS.1 (twR_may hS) ?_
          refine x_bip (j := 64) C dX3_takes_62 64 rfl (by decide) ?_
          refine x_iload C dX3_takes_64 66 rfl rfl ?_
          refine x_imul C dX3_takes_66 67 rfl (pk_mul _ _) ?_
          refine x_iload C dX3_takes_67 69 rfl rfl ?_
          refine x_iadd C dX3_takes_69 70 rfl (nI_add _ _) ?_
          refine x_iald C dX3_takes_70 71 rfl (twA_may hS) (twN_may hS) rfl (hpos _ hk1 hkm) (by decide) (m2 _ hk1 hkm) ?_
          refine x_iload_n C dX3_takes_71 72 rfl rfl ?_
          refine x_callV C lk_X3_239 dX3_takes_72 75 rfl [_, _, _, _, _] [] rfl rfl hS.1 (Nat.le_of_ble_eq_true rfl) (by decide) (Nat.le_refl _) (Nat.le_refl _) (kX3_isLeast hS hI ht hrr hs1 hk1 hpr hM hls) ?_
          rintro _ _ _ _ ⟨rfl, rfl, rfl, rfl⟩
          refine x_ifneZ C dX3_takes_75 78 84 rfl (by decide) (fun _ => ?_) (fun h75 => absurd h75 (by rw [show ilB I t how r (stN I t how r) (pkN I t how r (stN I t how r)) = true by { have h := pkP_D hk2; unfold ilB; simp [h.2.1, h.2.2.1, h.2.2.2] }]; decide))
          refine x_aloadr_n C dX3_takes_84 85 rfl rfl ?_
          refine x_getr C fl_X3_90 (Or.inr ⟨_, rfl⟩) dX3_takes_85 88 rfl hS.1 (twR_may hS) ?_
          refine x_bip (j := 64) C dX3_takes_88 90 rfl (by decide) ?_
          refine x_iload C dX3_takes_90 92 rfl rfl ?_
          refine x_imul C dX3_takes_92 93 rfl (pk_mul _ _) ?_
          refine x_iload C dX3_takes_93 95 rfl rfl ?_
          refine x_iadd C dX3_takes_95 96 rfl (nI_add _ _) ?_
          refine x_iald C dX3_takes_96 97 rfl (twA_may hS) (twN_may hS) rfl (hpos _ hk1 hkm) (by decide) (m2 _ hk1 hkm) ?_
          refine x_istore C dX3_takes_97 99 rfl [_, _, _, _, _, _, _, _, _, _, _] (by decide) rfl rfl ?_
          refine x_ic (j := 0) C dX3_takes_99 100 rfl ?_
          refine x_istore C dX3_takes_100 102 rfl [_, _, _, _, _, _, _, _, _, _, _] (by decide) rfl rfl ?_
          refine x_ls [some _, some _, some _, some _, some _, some _, some _, some _, none, some _, some _] ⟨rfl, rfl, rfl, rfl, rfl, rfl, rfl, rfl, rfl, rfl, trivial⟩ ?_
          exact h102 (pn I) 0 M none (Nat.zero_add _) hM hls hma (fun i hi => by rw [h501 i hi, if_neg (by omega)])
        | succ j ih3 =>
          intro y hy hj
          have hlt : cnt (mP I t r) y < cnt (mP I t r) (pkN I t how r (stN I t how r) + 1) := by
            rw [cnt_t hkm]
            have := cnt_mono (mP I t r) hy
            omega
          obtain ⟨x, x1, x2, x3, x4, x5⟩ := cnt_next hlt
          have hmx : M 498 (64 * r + cnt (mP I t r) y) = nI x := by rw [← x4]; exact m2 _ (by omega) x3
          refine x_aloadr_n C dX3_takes_52 53 rfl rfl ?_
          refine x_iload_n C dX3_takes_53 54 rfl rfl ?_
          refine x_iload C dX3_takes_54 56 rfl rfl ?_
          refine x_iload C dX3_takes_56 58 rfl rfl ?_
          refine x_aloadr_n C dX3_takes_58 59 rfl rfl ?_
          refine x_getr C fl_X3_90 (Or.inr ⟨_, rfl⟩) dX3_takes_59 62 rfl hS.1 (twR_may hS) ?_
          refine x_bip (j := 64) C dX3_takes_62 64 rfl (by decide) ?_
          refine x_iload C dX3_takes_64 66 rfl rfl ?_
          refine x_imul C dX3_takes_66 67 rfl (pk_mul _ _) ?_
          refine x_iload C dX3_takes_67 69 rfl rfl ?_
          refine x_iadd C dX3_takes_69 70 rfl (nI_add _ _) ?_
          refine x_iald C dX3_takes_70 71 rfl (twA_may hS) (twN_may hS) rfl (by rw [← x4]; exact hpos _ (by omega) x3) (by decide) hmx ?_
          refine x_iload_n C dX3_takes_71 72 rfl rfl ?_
          refine x_callV C lk_X3_239 dX3_takes_72 75 rfl [_, _, _, _, _] [] rfl rfl hS.1 (Nat.le_of_ble_eq_true rfl) (by decide) (Nat.le_refl _) (Nat.le_refl _) (kX3_isLeast hS hI ht hrr hs1 (show x < 1024 by omega) hpr hM hls) ?_
          rintro _ _ _ _ ⟨rfl, rfl, rfl, rfl⟩
          refine x_ifneZ C dX3_takes_75 78 84 rfl (by decide) (fun h75 => ?_) (fun h75 => ?_)
          · have hx : x = pkN I t how r (stN I t how r) := by
              rcases Nat.lt_or_ge x (pkN I t how r (stN I t how r)) with q | q
              · have h9 := runE_in (P := fun y => !pkP I t how r (stN I t how r) y) 1024 0 x (Nat.zero_le _) q
                have : pkP I t how r (stN I t how r) x = true := by
                  unfold pkP
                  unfold ilB at h75
                  simp only [Bool.and_eq_true] at h75 ⊢
                  exact ⟨⟨⟨x3, h75.1.1⟩, h75.1.2⟩, h75.2⟩
                simp [this] at h9
              · omega
            subst hx
            refine x_aloadr_n C dX3_takes_84 85 rfl rfl ?_
            refine x_getr C fl_X3_90 (Or.inr ⟨_, rfl⟩) dX3_takes_85 88 rfl hS.1 (twR_may hS) ?_
            refine x_bip (j := 64) C dX3_takes_88 90 rfl (by decide) ?_
            refine x_iload C dX3_takes_90 92 rfl rfl ?_
            refine x_imul C dX3_takes_92 93 rfl (pk_mul _ _) ?_
            refine x_iload C dX3_takes_93 95 rfl rfl ?_
            refine x_iadd C dX3_takes_95 96 rfl (nI_add _ _) ?_
            refine x_iald C dX3_takes_96 97 rfl (twA_may hS) (twN_may hS) rfl (by rw [← x4]; exact hpos _ (by omega) x3) (by decide) hmx ?_
            refine x_istore C dX3_takes_97 99 rfl [_, _, _, _, _, _, _, _, _, _, _] (by decide) rfl rfl ?_
            refine x_ic (j := 0) C dX3_takes_99 100 rfl ?_
            refine x_istore C dX3_takes_100 102 rfl [_, _, _, _, _, _, _, _, _, _, _] (by decide) rfl rfl ?_
            refine x_ls [some _, some _, some _, some _, some _, some _, some _, some _, none, some _, some _] ⟨rfl, rfl, rfl, rfl, rfl, rfl, rfl, rfl, rfl, rfl, trivial⟩ ?_
            exact h102 (pn I) 0 M none (Nat.zero_add _) hM hls hma (fun i hi => by rw [h501 i hi, if_neg (by omega)])
          · refine x_iinc C dX3_takes_78 81 rfl [_, _, _, _, _, _, _, _, _, _, _] (nI_inc _) (by decide) rfl rfl rfl ?_
            refine x_goto C dX3_takes_81 52 (by decide) ?_
            have hx : ¬ x = pkN I t how r (stN I t how r) := by
              intro e
              have h := pkP_D hk2
              rw [← e] at h
              unfold ilB at h75
              simp [h.2.1, h.2.2.1, h.2.2.2] at h75
            have h6 := ih3 (x + 1) (by omega) (by omega)
            rw [cnt_t x3, x4] at h6
            exact h6
      refine x_iload C dX3_takes_38 40 rfl rfl ?_
      refine x_aloadr_n C dX3_takes_40 41 rfl rfl ?_
      refine x_getr C fl_X3_51 (Or.inr ⟨_, rfl⟩) dX3_takes_41 44 rfl hS.1 (twR_rooms hS) ?_
      refine x_iload_n C dX3_takes_44 45 rfl rfl ?_
      refine x_iald C dX3_takes_45 46 rfl (twA_rooms hS) (twN_rooms hS) rfl (by omega) (by decide) ((hM 485 t (by decide) (by decide) (by decide) (by decide)).trans (tk_r hI ht)) ?_
      refine x_icmpgeN C dX3_takes_46 49 202 rfl (by decide) (by omega) (by omega) (fun h46 => absurd h46 (by omega)) (fun _ => ?_)
      refine x_ic (j := 0) C dX3_takes_49 50 rfl ?_
      refine x_istore C dX3_takes_50 52 rfl [_, _, _, _, _, _, _, _, _, _, _] (by decide) rfl rfl ?_
      exact h52 (pkN I t how r (stN I t how r)) 0 (Nat.zero_le _) (by omega)
  -- none is laid yet
  have hF : ∀ (j p : Nat) (M : Mi), p + j = pn I → sq4 M I → (∀ r', r' ≤ rn I t → ∀ s, s < 1024 → M 500 (1024 * r' + s) = nI (LDI I t how (rn I t - r') s)) → (∀ r, r < rn I t → maOk I M t r) → (∀ i, i < p → M 501 i = -1) → XX w κ (Zr w κ (Qg (tkS I t how) S J)) 0 0 12 [some (.ref 473), some (.int (nI t)), some (.int how), some (.int (nI (al I t))), some (.int (nI (al I t))), some (.int (nI 0)), some (.int (nI 0)), some (.int (nI p)), none, none, none] [] S M J := by
    intro j
    induction j with
    | zero =>
      intro p M hp hM hls hma h501
      have hp : pn I = p := Eq.symm hp
      subst hp
      refine x_iload C dX3_takes_12 14 rfl rfl ?_
      refine x_aloadr_n C dX3_takes_14 15 rfl rfl ?_
      refine x_geti C fl_X3_157 (Or.inl rfl) dX3_takes_15 18 rfl hS.1 ((hM 473 1 (by decide) (by decide) (by decide) (by decide)).trans (tk_p hI)) ?_
      refine x_icmpgeN C dX3_takes_18 21 35 rfl (by decide) (by omega) (by omega) (fun _ => ?_) (fun h18 => absurd h18 (by omega))
      refine x_ic (j := 0) C dX3_takes_35 36 rfl ?_
      refine x_istore C dX3_takes_36 38 rfl [_, _, _, _, _, _, _, _, _, _, _] (by decide) rfl rfl ?_
      exact hR (rn I t) 0 M (Nat.zero_add _) hM hls hma h501
    | succ j ih =>
      intro p M hp hM hls hma h501
      refine x_iload C dX3_takes_12 14 rfl rfl ?_
      refine x_aloadr_n C dX3_takes_14 15 rfl rfl ?_
      refine x_geti C fl_X3_157 (Or.inl rfl) dX3_takes_15 18 rfl hS.1 ((hM 473 1 (by decide) (by decide) (by decide) (by decide)).trans (tk_p hI)) ?_
      refine x_icmpgeN C dX3_takes_18 21 35 rfl (by decide) (by omega) (by omega) (fun h18 => absurd h18 (by omega)) (fun _ => ?_)
      refine x_aloadr_n C dX3_takes_21 22 rfl rfl ?_
      refine x_getr C fl_X3_102 (Or.inr ⟨_, rfl⟩) dX3_takes_22 25 rfl hS.1 (twR_fresh hS) ?_
      refine x_iload C dX3_takes_25 27 rfl rfl ?_
      refine x_icm C dX3_takes_27 28 rfl ?_
      refine x_iast C dX3_takes_28 29 rfl (twA_fresh hS) (twN_fresh hS) rfl (by omega) (by decide) ?_
      refine x_iinc C dX3_takes_29 32 rfl [_, _, _, _, _, _, _, _, _, _, _] (nI_inc _) (by decide) rfl rfl rfl ?_
      refine x_goto C dX3_takes_32 12 (by decide) ?_
      refine ih (p + 1) _ (by omega) (fun b i q1 q2 q3 q4 => by rw [sto_n _ _ _ q4]; exact hM b i q1 q2 q3 q4) (fun r' q1 s q2 => by rw [sto_n _ _ _ (by decide)]; exact hls r' q1 s q2) (fun r' q => ⟨by rw [sto_n _ _ _ (by decide)]; exact (hma r' q).1, fun x q1 q2 => by rw [sto_n _ _ _ (by decide)]; exact (hma r' q).2 x q1 q2⟩) (fun i hi => ?_)
      rw [sto_at]
      by_cases e : i = p
      · subst e; simp
      · rw [if_neg (fun q => e q.2)]; exact h501 i (by omega)
  refine x_iload_n C dX3_takes_0 1 rfl rfl ?_
  refine x_istore C dX3_takes_1 3 rfl [_, _, _, _, _, _, _, _, _, _, _] (by decide) rfl rfl ?_
  refine x_ic (j := 0) C dX3_takes_3 4 rfl ?_
  refine x_istore C dX3_takes_4 6 rfl [_, _, _, _, _, _, _, _, _, _, _] (by decide) rfl rfl ?_
  refine x_ic (j := 0) C dX3_takes_6 7 rfl ?_
  refine x_istore C dX3_takes_7 9 rfl [_, _, _, _, _, _, _, _, _, _, _] (by decide) rfl rfl ?_
  refine x_ic (j := 0) C dX3_takes_9 10 rfl ?_
  refine x_istore C dX3_takes_10 12 rfl [_, _, _, _, _, _, _, _, _, _, _] (by decide) rfl rfl ?_
  exact hF (pn I) 0 M (Nat.zero_add _) hM0 hls0 hma0 (fun i hi => by omega)
end Tw21
