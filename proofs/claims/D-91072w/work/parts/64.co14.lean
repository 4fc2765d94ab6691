/-! the component: a new person -/
theorem x_top {w : Wd} {κ : Cx} {Z : State → Prop} {cs sl pc : Nat} {L : List (Option Value)} {sk : List Value} {S : Sh} {I : Mi} {J : Ml} (k : (∀ a, S.2.2.2 ≤ a → S.1 a = 999) → XX w κ Z cs sl pc L sk S I J) : XX w κ Z cs sl pc L sk S I J := fun hp locs ls hR hL hl => k hR.2.2.2.1 hp locs ls hR hL hl
def NpOk (T : Mi) : Prop := ∀ p, pn T ≤ p → p < 10 → T 480 p = 0 ∧ T 497 p = 0 ∧ ∀ q, q < 10 → T 482 (10 * p + q) = 0
def peI (I : Mi) (a : Nat) (n so di fr tt : Int32) (sh lo : Bool) : Mi := sto (sto (sto (sto (sto (sto (sto I a 0 n) a 3 (bz sh)) a 1 so) a 4 (bz lo)) a 2 di) a 5 fr) a 6 tt
theorem peI_n {I : Mi} {a b : Nat} {n so di fr tt : Int32} {sh lo : Bool} (h : b ≠ a) : peI I a n so di fr tt sh lo b = I b := by
  unfold peI
  rw [sto_n _ _ _ h, sto_n _ _ _ h, sto_n _ _ _ h, sto_n _ _ _ h, sto_n _ _ _ h, sto_n _ _ _ h, sto_n _ _ _ h]
theorem newS_n {S : Sh} {t k n a : Nat} (h : a ≠ t) : (newS S t k n).1 a = S.1 a ∧ (newS S t k n).2.1 a = S.2.1 a ∧ (newS S t k n).2.2.1 a = S.2.2.1 a := ⟨va_up_ne _ _ h, va_up_ne _ _ h, wr_n _ _ h⟩
theorem newS_s {S : Sh} {t k n : Nat} : (newS S t k n).1 t = k ∧ (newS S t k n).2.1 t = n ∧ (newS S t k n).2.2.1 t = (fun _ => none) := ⟨va_up_self _ _ _, va_up_self _ _ _, wr_s _ _ _⟩
theorem peI_s {I : Mi} {a : Nat} {n so di fr tt : Int32} {sh lo : Bool} : peI I a n so di fr tt sh lo a 0 = n ∧ peI I a n so di fr tt sh lo a 1 = so ∧ peI I a n so di fr tt sh lo a 2 = di ∧ peI I a n so di fr tt sh lo a 3 = bz sh ∧ peI I a n so di fr tt sh lo a 4 = bz lo ∧ peI I a n so di fr tt sh lo a 5 = fr ∧ peI I a n so di fr tt sh lo a 6 = tt ∧ peI I a n so di fr tt sh lo a 7 = I a 7 ∧ peI I a n so di fr tt sh lo a 8 = I a 8 ∧ peI I a n so di fr tt sh lo a 9 = I a 9 := by
  unfold peI
  simp [sto_at]
section
variable {K : Ly} {S : Sh} {I T : Mi}
def spP (T : Mi) (n : Nat) (so di fr tt : Int32) (sh lo : Bool) : Mi := sto (sto (sto (sto (sto (sto (sto (sto T 474 n (bz sh)) 475 n so) 476 n (bz lo)) 477 n di) 478 n fr) 479 n tt) 481 n (-1)) 473 1 (nI (n + 1))
theorem CoR_person (h : CoR K S I T) (hI : Tok T) (hF : FrOk T) (hN : NpOk T) (hn : pn T < 10) {t : Nat} (ht : S.2.2.2 = t) (htop : S.1 t = 999) {so di fr tt : Int32} {sh lo : Bool} :
    CoR (va_up (pa K) (pn T) t, K.2) (setR (newS S t 3 0) 1 (pn T) (some t)) (sto (peI (wr I t (fun _ => 0)) t (nI (pn T)) so di fr tt sh lo) 0 2 (nI (pn T + 1))) (spP T (pn T) so di fr tt sh lo) := by
  have hC := cr_S h
  have hly := cr_ly h
  have ht6 := tk_t2 hI
  have h520 : 520 ≤ t := by have := hly.2.2.2.2.2.2; omega
  obtain ⟨S', hS'⟩ : ∃ S', S' = setR (newS S t 3 0) 1 (pn T) (some t) := ⟨_, rfl⟩
  obtain ⟨I', hI'⟩ : ∃ I', I' = sto (peI (wr I t (fun _ => 0)) t (nI (pn T)) so di fr tt sh lo) 0 2 (nI (pn T + 1)) := ⟨_, rfl⟩
  obtain ⟨T', hT'⟩ : ∃ T', T' = spP T (pn T) so di fr tt sh lo := ⟨_, rfl⟩
  have s1 : ∀ a, a ≠ t → S'.1 a = S.1 a ∧ S'.2.1 a = S.2.1 a := fun a ha => by rw [hS']; exact ⟨(newS_n (S := S) (k := 3) (n := 0) ha).1, (newS_n (S := S) (k := 3) (n := 0) ha).2.1⟩
  have s2 : ∀ a, a ≠ t → a ≠ 1 → S'.2.2.1 a = S.2.2.1 a := fun a ha hb => by
    rw [hS']
    show sto (newS S t 3 0).2.2.1 1 (pn T) (some t) a = _
    rw [sto_n _ _ _ hb, (newS_n ha).2.2]
  have s3 : ∀ i, S'.2.2.1 1 i = if i = pn T then some t else S.2.2.1 1 i := fun i => by
    rw [hS']
    show sto (newS S t 3 0).2.2.1 1 (pn T) (some t) 1 i = _
    rw [sto_at, (newS_n (show 1 ≠ t by omega)).2.2]
    simp
  have s4 : S'.1 t = 3 ∧ S'.2.2.1 t 10 = none ∧ S'.2.2.2 = t + 1 := by
    rw [hS']
    refine ⟨(newS_s (S := S) (t := t) (k := 3) (n := 0)).1, ?_, rfl⟩
    show sto (newS S t 3 0).2.2.1 1 (pn T) (some t) t 10 = _
    rw [sto_n _ _ _ (by omega), newS_s.2.2]
  have i1 : ∀ a, a ≠ t → a ≠ 0 → I' a = I a := fun a ha hb => by rw [hI', sto_n _ _ _ hb, peI_n ha, wr_n _ _ ha]
  have i0 : ∀ i, I' 0 i = if i = 2 then nI (pn T + 1) else I 0 i := fun i => by
    rw [hI', sto_at, peI_n (by omega), wr_n _ _ (by omega)]
    simp
  have it : I' t = peI (wr I t (fun _ => 0)) t (nI (pn T)) so di fr tt sh lo t := by rw [hI', sto_n _ _ _ (by omega)]
  have tb : ∀ b, b ∉ [473, 474, 475, 476, 477, 478, 479, 481] → T' b = T b := fun b hb => by
    simp only [List.mem_cons, List.not_mem_nil, or_false] at hb
    rw [hT']
    unfold spP
    rw [sto_n _ _ _ (by omega), sto_n _ _ _ (by omega), sto_n _ _ _ (by omega), sto_n _ _ _ (by omega), sto_n _ _ _ (by omega), sto_n _ _ _ (by omega), sto_n _ _ _ (by omega), sto_n _ _ _ (by omega)]
  have t0 : ∀ i, T' 473 i = if i = 1 then nI (pn T + 1) else T 473 i := fun i => by
    rw [hT']
    unfold spP
    rw [sto_at]
    simp only [true_and]
    rfl
  have tq : ∀ b q, b ≠ 473 → q ≠ pn T → T' b q = T b q := fun b q hb hq => by
    rw [hT']
    unfold spP
    rw [sto_n _ _ _ hb, sto_at, sto_at, sto_at, sto_at, sto_at, sto_at, sto_at, if_neg (by omega), if_neg (by omega), if_neg (by omega), if_neg (by omega), if_neg (by omega), if_neg (by omega), if_neg (by omega)]
  have tn' : T' 474 (pn T) = bz sh ∧ T' 475 (pn T) = so ∧ T' 476 (pn T) = bz lo ∧ T' 477 (pn T) = di ∧ T' 478 (pn T) = fr ∧ T' 479 (pn T) = tt ∧ T' 481 (pn T) = -1 := by
    rw [hT']
    unfold spP
    simp [sto_at]
  have hpn : pn T' = pn T + 1 := by
    show nt (T' 473 1) = _
    rw [t0, if_pos rfl, nt_nI (by omega)]
  have htn : tn T' = tn T := by
    show nt (T' 473 11) = _
    rw [t0]
    rfl
  rw [← hS', ← hI', ← hT']
  have hsm : ∀ a, a ≠ t → a ≠ 0 → a ≠ 1 → sm S I S' I' a := fun a q1 q2 q3 => ⟨(s1 a q1).1, (s1 a q1).2, s2 a q1 q3, i1 a q1 q2⟩
  have hfx : ∀ a, a < 520 → a ≠ 0 → I' a = I a := fun a q1 q2 => i1 a (by omega) q2
  refine ⟨coS_g hC (fun a q => ⟨(s1 a (by omega)).1, (s1 a (by omega)).2, fun q1 _ => s2 a (by omega) q1⟩), ?_, ?_, ?_, ?_, ?_, ?_, ?_, ?_, ?_⟩
  · obtain ⟨g1, g2, g3, g4, g5, g6, g7, g8, g9, g10, g11, g12, g13, g14, g15, g16⟩ := h.2.1
    unfold coSc
    simp only [i0, t0]
    exact ⟨rfl, g2, g3, g4, g5, g6, g7, g8, g9, g10, g11, g12, g13, g14, g15, g16⟩
  · intro p hp
    rw [hpn] at hp
    by_cases hpe : p = pn T
    · obtain ⟨z1, z2, z3⟩ := hN (pn T) (Nat.le_refl _) hn
      obtain ⟨p0, p1, p2, p3, p4, p5, p6, p7, p8, p9⟩ := @peI_s (wr I t (fun _ => 0)) t (nI (pn T)) so di fr tt sh lo
      obtain ⟨n1, n2, n3, n4, n5, n6, n7⟩ := tn'
      have hb0 : bmN T' (pn T) = 0 := by
        unfold bmN
        refine Nat.eq_of_testBit_eq (fun i => ?_)
        rw [msk_bit, Nat.zero_testBit]
        by_cases hi : i < 10
        · rw [tb 482 (by decide), z3 i hi]
          simp
        · simp [hi]
      rw [hpe]
      unfold perR frR
      rw [show pa (va_up (pa K) (pn T) t, K.2) (pn T) = t from va_up_self _ _ _, it, p0, p1, p2, p3, p4, p5, p6, p7, p8, p9, n1, n2, n3, n4, n5, n6, n7, hb0, tb 497 (by decide), tb 480 (by decide), z1, z2, wr_s]
      exact ⟨by rw [s3, if_pos rfl], s4.1, rfl, rfl, rfl, rfl, rfl, rfl, rfl, rfl, rfl, rfl, by rw [if_pos rfl]; exact s4.2.1⟩
    · have hp2 : p < pn T := by omega
      have hpt : pa K p ≠ t := by have := (hly.2.2.2.1 p hp2).2; omega
      refine perR_g (cr_pe h hp2) (va_up_ne _ _ hpe) ?_ (by rw [s3, if_neg hpe]) (hsm _ hpt (ap_pf h hp2 (by decide)) (ap_pf h hp2 (by decide))) (fun b hb => tq b p (by simp only [List.mem_cons, List.not_mem_nil, or_false] at hb; omega) hpe) (fun q hq => by rw [tb 482 (by decide)])
      unfold frR
      rw [tq 481 p (by decide) hpe]
      rcases hF p hp2 with e | ⟨q, hq, e, -⟩
      · rw [if_pos e, if_pos e]
      · rw [e, nt_nI (by omega)]
        have : pa (va_up (pa K) (pn T) t, K.2) q = pa K q := va_up_ne _ _ (by omega)
        rw [this]
  · intro u hu
    rw [htn] at hu
    have l5 := hly.2.2.2.2.1 u hu
    refine towR_g (cr_to h hu) ⟨rfl, rfl, fun _ _ => rfl⟩ (by rw [s2 2 (by omega) (by decide)]) ⟨hsm _ (by omega) (by omega) (by omega), hsm _ (by omega) (by omega) (by omega), hsm _ (by omega) (by omega) (by omega)⟩ (fun r hr => by have := hly.2.2.2.2.2.1 u r hu hr; exact hsm _ (by omega) (by omega) (by omega)) (fun b hb => congrFun (tb b ?_) _) (fun p hp => by rw [tb 490 (by decide)]) (fun b r hb hr => congrFun (tb b ?_) _)
    · simp only [List.mem_cons, List.not_mem_nil, or_false] at hb ⊢
      omega
    · simp only [List.mem_cons, List.not_mem_nil, or_false] at hb ⊢
      omega
  · intro u hu
    rw [htn] at hu
    refine cntR_g (cr_ct h hu) rfl (fun a ha => hsm a (fun e => ?_) (fun e => ?_) (fun e => ?_)) (rulesOf_k ⟨tb 504 (by decide), tb 505 (by decide)⟩ u) (by rw [tb 506 (by decide)])
    · rw [e, htop] at ha
      exact absurd ha (by unfold immT; omega)
    · rw [e, hC.1] at ha
      exact ni_0 ha
    · rw [e, coA_people hC] at ha
      exact absurd ha (by unfold immT; omega)
  · exact coNo_k (cr_no h) ⟨hfx 3 (by decide) (by decide), hfx 4 (by decide) (by decide), hfx 5 (by decide) (by decide), hfx 6 (by decide) (by decide)⟩ (by show nt _ = nt _; rw [t0]; rfl) ⟨tb _ (by decide), tb _ (by decide), tb _ (by decide)⟩
  · exact coTp_k (cr_tp h) (hfx 7 (by decide) (by decide)) (by show nt _ = nt _; rw [t0]; rfl) (tb _ (by decide))
  · exact coBk_k (cr_bk h) (fun a q1 q2 => hfx a (by omega) (by omega)) ⟨tb _ (by decide), tb _ (by decide), tb _ (by decide)⟩
  · refine coTr_k (cr_tr h) (fun a q1 q2 => hfx a (by omega) (by omega)) (fun b hb => tb b ?_)
    simp only [List.mem_cons, List.not_mem_nil, or_false] at hb ⊢
    omega
  · obtain ⟨h1, h2, h3, h4, h5, h6, h7⟩ := hly
    have htt : ∀ u, rn T' u = rn T u := fun u => by show nt _ = nt _; rw [tb 485 (by decide)]
    have hpa : ∀ p, p ≠ pn T → pa (va_up (pa K) (pn T) t, K.2) p = pa K p := fun p hp => va_up_ne _ _ hp
    have hpa2 : pa (va_up (pa K) (pn T) t, K.2) (pn T) = t := va_up_self _ _ _
    unfold layR
    rw [hpn, htn, s4.2.2]
    refine ⟨fun p q hp hq e => ?_, h2, fun a b r s q1 q2 q3 q4 => ?_, fun p hp => ?_, fun u hu => ⟨(h5 u hu).1, by have := (h5 u hu).2; show ta K u + 2 < t + 1; omega⟩, fun u r q1 q2 => ?_, by omega⟩
    · by_cases hp1 : p = pn T
      · by_cases hq1 : q = pn T
        · omega
        · rw [hp1, hpa2, hpa q hq1] at e
          have := (h4 q (by omega)).2
          omega
      · by_cases hq1 : q = pn T
        · rw [hq1, hpa2, hpa p hp1] at e
          have := (h4 p (by omega)).2
          omega
        · rw [hpa p hp1, hpa q hq1] at e
          exact h1 p q (by omega) (by omega) e
    · rw [htt] at q3 q4
      exact h3 a b r s q1 q2 q3 q4
    · by_cases hp1 : p = pn T
      · rw [hp1, hpa2]
        omega
      · rw [hpa p hp1]
        have := h4 p (by omega)
        omega
    · rw [htt] at q2
      have := h6 u r q1 q2
      exact ⟨this.1, by show ra K u r < t + 1; omega⟩
end
theorem Qp_a {q : Int32 × Mi} {K : Ly} {S S' : Sh} {I I' : Mi} {J J' : Ml} {c : Nat} {v : Int32} {T' : Mi} (hq : q = (v, T')) (hR : CoR K S' I' T') (hf : fzI I I') (hs : fzS S S') (hj : fzJ J J') (hc : S'.2.2.2 ≤ S.2.2.2 + c) : Qp q S I J c (some (.int v)) S' I' J' := by
  subst hq
  exact ⟨rfl, ⟨K, hR⟩, hs, hf, hj, hc⟩
section Co14
variable {w : Wd} {l : Launch} {K : Ly} {S : Sh} {I T : Mi} {J : Ml}
theorem kX4_init {a : Nat} (hT : S.1 a = 3) {n so di fr tt : Int32} {sh lo : Bool} : Ct w l yX4_init cX4_init 8 none 1 0 0 [.ref a, .int n, .int (bz sh), .int so, .int (bz lo), .int di, .int fr, .int tt] S I J (Qv (peI I a n so di fr tt sh lo) S J) := by
  refine Ct.of [some _, some _, some _, some _, some _, some _, some _, some _] rfl (Nat.le_of_ble_eq_true rfl) (by decide) ?_
  intro κ hκ C
  subst hκ
  refine x_aloadr_n C dX4_init_0 1 rfl rfl ?_
  refine x_obj C q302 dX4_init_1 4 rfl (Nat.le_of_ble_eq_true rfl) (by decide) ?_
  refine x_aloadr_n C dX4_init_4 5 rfl rfl ?_
  refine x_iload_n C dX4_init_5 6 rfl rfl ?_
  refine x_puti C fl_X4_7 (Or.inl rfl) (Or.inr ⟨rfl, _, rfl, rfl⟩) dX4_init_6 9 rfl hT ?_
  refine x_aloadr_n C dX4_init_9 10 rfl rfl ?_
  refine x_iload_n C dX4_init_10 11 rfl rfl ?_
  refine x_puti C fl_X4_13 (Or.inr ⟨Or.inl rfl, ⟨bz_nar _, bz_fit _⟩⟩) (Or.inr ⟨rfl, _, rfl, rfl⟩) dX4_init_11 14 rfl hT ?_
  refine x_aloadr_n C dX4_init_14 15 rfl rfl ?_
  refine x_iload_n C dX4_init_15 16 rfl rfl ?_
  refine x_puti C fl_X4_17 (Or.inl rfl) (Or.inr ⟨rfl, _, rfl, rfl⟩) dX4_init_16 19 rfl hT ?_
  refine x_aloadr_n C dX4_init_19 20 rfl rfl ?_
  refine x_iload C dX4_init_20 22 rfl rfl ?_
  refine x_puti C fl_X4_20 (Or.inr ⟨Or.inl rfl, ⟨bz_nar _, bz_fit _⟩⟩) (Or.inr ⟨rfl, _, rfl, rfl⟩) dX4_init_22 25 rfl hT ?_
  refine x_aloadr_n C dX4_init_25 26 rfl rfl ?_
  refine x_iload C dX4_init_26 28 rfl rfl ?_
  refine x_puti C fl_X4_23 (Or.inl rfl) (Or.inr ⟨rfl, _, rfl, rfl⟩) dX4_init_28 31 rfl hT ?_
  refine x_aloadr_n C dX4_init_31 32 rfl rfl ?_
  refine x_iload C dX4_init_32 34 rfl rfl ?_
  refine x_puti C fl_X4_26 (Or.inl rfl) (Or.inl rfl) dX4_init_34 37 rfl hT ?_
  refine x_aloadr_n C dX4_init_37 38 rfl rfl ?_
  refine x_iload C dX4_init_38 40 rfl rfl ?_
  refine x_puti C fl_X4_29 (Or.inl rfl) (Or.inl rfl) dX4_init_40 43 rfl hT ?_
  exact x_vret C dX4_init_43 (Nat.le_refl _) (Nat.le_refl _) (Qv_of rfl)
theorem kX1_person (hR : CoR K S I T) (hI : Tok T) (hF : FrOk T) (hN : NpOk T) (hb : S.2.2.2 < 9999999) {so di fr tt : Int32} {sh lo : Bool} : Ct w l yX1_person cX1_person 7 (some .int) 2 1 11 [.ref 0, .int (bz sh), .int so, .int (bz lo), .int di, .int fr, .int tt] S I J (Qp (sp_person T sh so lo di fr tt) S I J 1) := by
  refine Ct.of [some _, some _, some _, some _, some _, some _, some _] rfl (Nat.le_of_ble_eq_true rfl) (by decide) ?_
  intro κ hκ C
  subst hκ
  have hC := cr_S hR
  have hp10 := tk_p2 hI
  have ht6 := tk_t2 hI
  have hg30 := tk_g2 hI
  have hc30 := tk_c2 hI
  have hn500 := tk_n2 hI
  refine x_iload_n C dX1_person_0 1 rfl rfl ?_
  refine x_ic (j := 0) C dX1_person_1 2 rfl ?_
  refine x_ic (j := 3) C dX1_person_2 3 rfl ?_
  refine x_callS C lk_X1_108 dX1_person_3 6 rfl [_, _, _] [] rfl rfl (Nat.le_of_ble_eq_true rfl) (by decide) (by decide) (by decide) kX1_in ?_
  rintro _ _ _ _ ⟨rfl, rfl, rfl, rfl⟩
  refine x_ifeqZ C dX1_person_6 9 49 rfl (by decide) (fun h6 => ?_) (fun h6 => ?_)
  · refine x_icm C dX1_person_49 50 rfl ?_
    exact x_iret C dX1_person_50 (by decide) (by decide) (Qp_n hR (by simp [sp_person, no1, h6]))
  · refine x_iload C dX1_person_9 11 rfl rfl ?_
    refine x_ic (j := 0) C dX1_person_11 12 rfl ?_
    refine x_ic (j := 3) C dX1_person_12 13 rfl ?_
    refine x_callS C lk_X1_108 dX1_person_13 16 rfl [_, _, _] [] rfl rfl (Nat.le_of_ble_eq_true rfl) (by decide) (by decide) (by decide) kX1_in ?_
    rintro _ _ _ _ ⟨rfl, rfl, rfl, rfl⟩
    refine x_ifeqZ C dX1_person_16 19 49 rfl (by decide) (fun h16 => ?_) (fun h16 => ?_)
    · refine x_icm C dX1_person_49 50 rfl ?_
      exact x_iret C dX1_person_50 (by decide) (by decide) (Qp_n hR (by simp [sp_person, no1, h6, h16]))
    · refine x_iload C dX1_person_19 21 rfl rfl ?_
      refine x_ic (j := 0) C dX1_person_21 22 rfl ?_
      refine x_ic (j := 5) C dX1_person_22 23 rfl ?_
      refine x_callS C lk_X1_108 dX1_person_23 26 rfl [_, _, _] [] rfl rfl (Nat.le_of_ble_eq_true rfl) (by decide) (by decide) (by decide) kX1_in ?_
      rintro _ _ _ _ ⟨rfl, rfl, rfl, rfl⟩
      refine x_ifeqZ C dX1_person_26 29 49 rfl (by decide) (fun h26 => ?_) (fun h26 => ?_)
      · refine x_icm C dX1_person_49 50 rfl ?_
        exact x_iret C dX1_person_50 (by decide) (by decide) (Qp_n hR (by simp [sp_person, no1, h6, h16, h26]))
      · refine x_iload C dX1_person_29 31 rfl rfl ?_
        refine x_iload C dX1_person_31 33 rfl rfl ?_
        refine x_ic (j := 5) C dX1_person_33 34 rfl ?_
        refine x_callS C lk_X1_108 dX1_person_34 37 rfl [_, _, _] [] rfl rfl (Nat.le_of_ble_eq_true rfl) (by decide) (by decide) (by decide) kX1_in ?_
        rintro _ _ _ _ ⟨rfl, rfl, rfl, rfl⟩
        refine x_ifeqZ C dX1_person_37 40 49 rfl (by decide) (fun h37 => ?_) (fun h37 => ?_)
        · refine x_icm C dX1_person_49 50 rfl ?_
          exact x_iret C dX1_person_50 (by decide) (by decide) (Qp_n hR (by simp [sp_person, no1, h6, h16, h26, h37]))
        · refine x_aloadr_n C dX1_person_40 41 rfl rfl ?_
          refine x_geti C fl_X1_105 (Or.inl rfl) dX1_person_41 44 rfl hC.1 (cs_peopleMany hR) ?_
          refine x_bip (j := 10) C dX1_person_44 46 rfl (by decide) ?_
          refine x_icmpne C dX1_person_46 49 51 rfl (by decide) (fun h46 => ?_) (fun h46 => ?_)
          · have hn : pn T < 10 := by have : ¬ pn T = 10 := fun q => h46 (by rw [tk_p hI, q]); omega
            have h520 := (cr_ly hR).2.2.2.2.2.2
            refine x_top (fun htop => ?_)
            have hfin := CoR_person hR hI hF hN hn rfl (htop _ (Nat.le_refl _)) (so := so) (di := di) (fr := fr) (tt := tt) (sh := sh) (lo := lo)
            have hsp : sp_person T sh so lo di fr tt = (nI (pn T), spP T (pn T) so di fr tt sh lo) := by
              unfold sp_person spP
              rw [← nI_add, ← tk_p hI]
              simp [h6, h16, h26, h37, h46]
            obtain ⟨t, ht⟩ : ∃ t, S.2.2.2 = t := ⟨_, rfl⟩
            rw [ht] at h520 hb hfin
            have hC1 : coS (newS S t 3 0) := coS_g hC (fun a q => ⟨(newS_n (by omega)).1, (newS_n (by omega)).2.1, fun _ _ => (newS_n (by omega)).2.2⟩)
            have hw : ∀ i, wr I t (fun _ => 0) 0 i = I 0 i := fun i => congrFun (wr_n _ _ (by omega)) i
            refine x_aloadr_n C dX1_person_51 52 rfl rfl ?_
            refine x_getr C fl_X1_11 (Or.inr ⟨_, rfl⟩) dX1_person_52 55 rfl hC.1 (coR_people hC) ?_
            refine x_aloadr_n C dX1_person_55 56 rfl rfl ?_
            refine x_geti C fl_X1_105 (Or.inl rfl) dX1_person_56 59 rfl hC.1 ((cs_peopleMany hR).trans (tk_p hI)) ?_
            refine x_new C nl_X1_9 dX1_person_59 62 rfl _ ht hb (by decide) (by decide) ?_
            have hC := hC1
            have hnt : (newS S t 3 0).1 t = 3 := newS_s.1
            refine x_dup C dX1_person_62 63 rfl rfl ?_
            refine x_aloadr_n C dX1_person_63 64 rfl rfl ?_
            refine x_geti C fl_X1_105 (Or.inl rfl) dX1_person_64 67 rfl hC.1 ((hw _).trans ((cs_peopleMany hR).trans (tk_p hI))) ?_
            refine x_iload_n C dX1_person_67 68 rfl rfl ?_
            refine x_iload_n C dX1_person_68 69 rfl rfl ?_
            refine x_iload_n C dX1_person_69 70 rfl rfl ?_
            refine x_iload C dX1_person_70 72 rfl rfl ?_
            refine x_iload C dX1_person_72 74 rfl rfl ?_
            refine x_iload C dX1_person_74 76 rfl rfl ?_
            refine x_callI C lk_X1_131 dX1_person_76 79 rfl [_, _, _, _, _, _, _] [_, _, _] rfl rfl hnt (by decide) (Nat.le_of_ble_eq_true rfl) (by decide) (by decide) (by decide) (kX4_init hnt) ?_
            rintro _ _ _ _ ⟨rfl, rfl, rfl, rfl⟩
            refine x_aast (t := 4) C dX1_person_79 80 rfl (coA_people hC) (by decide) (coN_people hC) rfl (by omega) (by decide) hnt (by decide) rfl ⟨_, rfl, Or.inl rfl⟩ ?_
            refine x_aloadr_n C dX1_person_80 81 rfl rfl ?_
            refine x_dup C dX1_person_81 82 rfl rfl ?_
            refine x_geti C fl_X1_105 (Or.inl rfl) dX1_person_82 85 rfl hC.1 ((congrFun (peI_n (by omega)) _).trans ((hw _).trans ((cs_peopleMany hR).trans (tk_p hI)))) ?_
            refine x_ic (j := 1) C dX1_person_85 86 rfl ?_
            refine x_iadd C dX1_person_86 87 rfl (nI_add _ _) ?_
            refine x_puti C fl_X1_105 (Or.inl rfl) (Or.inl rfl) dX1_person_87 90 rfl hC.1 ?_
            refine x_aloadr_n C dX1_person_90 91 rfl rfl ?_
            refine x_geti C fl_X1_105 (Or.inl rfl) dX1_person_91 94 rfl hC.1 (sto_ss _ _ _ _) ?_
            refine x_ic (j := 1) C dX1_person_94 95 rfl ?_
            refine x_isub C dX1_person_95 96 rfl (pk_sub (by omega)) ?_
            exact x_iret C dX1_person_96 (by decide) (by decide) (Qp_a hsp hfin (fz_sto (fun a q1 q2 => by rw [peI_n (by omega), wr_n _ _ (by omega)]) (by decide)) (fzS_set (fun a q1 q2 => newS_n (by omega)) (by decide)) (fun a q1 q2 => wr_n _ _ (by omega)) (by rw [ht]; exact Nat.le_refl _))
          · have e46 := eq_true h46
            refine x_icm C dX1_person_49 50 rfl ?_
            exact x_iret C dX1_person_50 (by decide) (by decide) (Qp_n hR (by simp [sp_person, no1, h6, h16, h26, h37, e46]))
end Co14
