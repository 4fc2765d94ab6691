/-! the component: a town comes -/
theorem rules_0 {T : Mi} {t : Nat} (h : T 505 t = 0) : pRules (txt T t) (nt (T 505 t)) = .ok [] ∧ rulesOf T t = [] := by
  have e : ∀ tx : Nat → Int32, pRules tx 0 = .ok [] := fun tx => rfl
  have e2 : nt (T 505 t) = 0 := by rw [h]; rfl
  refine ⟨by rw [e2]; exact e _, ?_⟩
  unfold rulesOf
  rw [e2, e]
def spT (T : Mi) (n : Nat) (k : Int32) : Mi := sto (sto (sto (sto T 483 n k) 484 n (T 473 12)) 473 12 (T 473 12 + k)) 473 11 (nI (n + 1))
section
variable {K : Ly} {S S1 : Sh} {I I1 T : Mi} {J J1 : Ml}
theorem CoR_town (h : CoR K S I T) (hI : Tok T) (hN : NtOk T) (hn : tn T < 6) {t : Nat} (ht : S.2.2.2 = t) (htop : ∀ a, t ≤ a → S.1 a = 999) {k : Int32} (hP : twP t (newS S t 4 0) (wr I t (fun _ => 0)) (wr J t (fun _ => 0)) k (T 473 12) none S1 I1 J1) :
    CoR (K.1, va_up (ta K) (tn T) t, K.2.2.1, va_up (ca K) (tn T) (t + 3)) (setR S1 2 (tn T) (some t)) (sto (sto I1 0 4 (T 473 12 + k)) 0 3 (nI (tn T + 1))) (spT T (tn T) k) := by
  obtain ⟨-, w1, w2, w3, w4, w5, w6, w7, w8, w9, w10, w11, w12, w13, w14, w15, w16, w17, w18, w19⟩ := hP
  have hC := cr_S h
  have hly := cr_ly h
  have ht6 := tk_t2 hI
  have h520 : 520 ≤ t := by have := hly.2.2.2.2.2.2; omega
  obtain ⟨S', hS'⟩ : ∃ S', S' = setR S1 2 (tn T) (some t) := ⟨_, rfl⟩
  obtain ⟨I', hI'⟩ : ∃ I', I' = sto (sto I1 0 4 (T 473 12 + k)) 0 3 (nI (tn T + 1)) := ⟨_, rfl⟩
  obtain ⟨T', hT'⟩ : ∃ T', T' = spT T (tn T) k := ⟨_, rfl⟩
  obtain ⟨K', hK'⟩ : ∃ K' : Ly, K' = (K.1, va_up (ta K) (tn T) t, K.2.2.1, va_up (ca K) (tn T) (t + 3)) := ⟨_, rfl⟩
  have k1 : pa K' = pa K := by rw [hK']
  have k3 : ra K' = ra K := by rw [hK']
  have k2 : ∀ v, v ≠ tn T → ta K' v = ta K v := fun v hv => by rw [hK']; exact va_up_ne _ _ hv
  have k2s : ta K' (tn T) = t := by rw [hK']; exact va_up_self _ _ _
  have k4 : ∀ v, v ≠ tn T → ca K' v = ca K v := fun v hv => by rw [hK']; exact va_up_ne _ _ hv
  have k4s : ca K' (tn T) = t + 3 := by rw [hK']; exact va_up_self _ _ _
  have b1 : ∀ a, a < t → S1.1 a = S.1 a ∧ S1.2.1 a = S.2.1 a ∧ S1.2.2.1 a = S.2.2.1 a ∧ I1 a = I a := fun a ha => by
    obtain ⟨x1, x2, x3, x4, -⟩ := w2 a ha
    have hne : a ≠ t := by omega
    exact ⟨x1.trans (newS_n hne).1, x2.trans (newS_n hne).2.1, x3.trans (newS_n hne).2.2, x4.trans (wr_n _ _ hne)⟩
  have s1 : ∀ a, S'.1 a = S1.1 a ∧ S'.2.1 a = S1.2.1 a := fun a => by rw [hS']; exact ⟨rfl, rfl⟩
  have s2 : ∀ a, a ≠ 2 → S'.2.2.1 a = S1.2.2.1 a := fun a ha => by rw [hS']; exact sto_n _ _ _ ha
  have s3 : ∀ i, S'.2.2.1 2 i = if i = tn T then some t else S.2.2.1 2 i := fun i => by
    rw [hS', setR_e3, (b1 2 (by omega)).2.2.1]
    simp
  have i1 : ∀ a, a ≠ 0 → I' a = I1 a := fun a ha => by rw [hI', sto_n _ _ _ ha, sto_n _ _ _ ha]
  have i0 : ∀ i, I' 0 i = if i = 3 then nI (tn T + 1) else if i = 4 then T 473 12 + k else I 0 i := fun i => by
    rw [hI', sto_at, sto_at, (b1 0 (by omega)).2.2.2]
    simp
  have hsm : ∀ a, a < t → a ≠ 0 → a ≠ 2 → sm S I S' I' a := fun a q1 q2 q3 => ⟨(s1 a).1.trans (b1 a q1).1, (s1 a).2.trans (b1 a q1).2.1, (s2 a q3).trans (b1 a q1).2.2.1, (i1 a q2).trans (b1 a q1).2.2.2⟩
  have tb : ∀ b, b ∉ [473, 483, 484] → T' b = T b := fun b hb => by
    simp only [List.mem_cons, List.not_mem_nil, or_false] at hb
    rw [hT']
    unfold spT
    rw [sto_n _ _ _ (by omega), sto_n _ _ _ (by omega), sto_n _ _ _ (by omega), sto_n _ _ _ (by omega)]
  have t0 : ∀ i, T' 473 i = if i = 11 then nI (tn T + 1) else if i = 12 then T 473 12 + k else T 473 i := fun i => by
    rw [hT']
    unfold spT
    rw [sto_at, sto_at]
    simp only [true_and]
    rfl
  have t3 : ∀ v, T' 483 v = if v = tn T then k else T 483 v := fun v => by
    rw [hT']
    show sto T 483 (tn T) k 483 v = _
    rw [sto_at]
    simp
  have t4 : ∀ v, T' 484 v = if v = tn T then T 473 12 else T 484 v := fun v => by
    rw [hT']
    show sto (sto T 483 (tn T) k) 484 (tn T) (T 473 12) 484 v = _
    rw [sto_at, sto_n _ _ _ (by decide)]
    simp
  have hpn : pn T' = pn T := by show nt _ = nt _; rw [t0]; rfl
  have htn : tn T' = tn T + 1 := by show nt _ = _; rw [t0, if_pos rfl, nt_nI (by omega)]
  have hrn : ∀ v, rn T' v = rn T v := fun v => by show nt _ = nt _; rw [tb 485 (by decide)]
  obtain ⟨z1, z2, z3, z4⟩ := hN (tn T) (Nat.le_refl _) hn
  have hr0 : rn T (tn T) = 0 := by show nt _ = 0; rw [z1]; rfl
  have him : imq S I S' I' := fun a ha => hsm a (Nat.not_le.mp fun q => by rw [htop a q] at ha; exact absurd ha (by unfold immT; omega)) (fun e => by rw [e, hC.1] at ha; exact ni_0 ha) (fun e => by rw [e, coA_towns hC] at ha; exact absurd ha (by unfold immT; omega))
  have hfx : ∀ a, a < 520 → a ≠ 0 → I' a = I a := fun a q1 q2 => (i1 a q2).trans (b1 a (by omega)).2.2.2
  rw [← hS', ← hI', ← hT', ← hK']
  refine ⟨coS_g hC (fun a q => ⟨(s1 a).1.trans (b1 a (by omega)).1, (s1 a).2.trans (b1 a (by omega)).2.1, fun _ q2 => (s2 a q2).trans (b1 a (by omega)).2.2.1⟩), ?_, ?_, ?_, ?_, ?_, ?_, ?_, ?_, ?_⟩
  · obtain ⟨g1, g2, g3, g4, g5, g6, g7, g8, g9, g10, g11, g12, g13, g14, g15, g16⟩ := h.2.1
    unfold coSc
    simp only [i0, t0]
    exact ⟨g1, rfl, rfl, g4, g5, g6, g7, g8, g9, g10, g11, g12, g13, g14, g15, g16⟩
  · intro p hp
    rw [hpn] at hp
    have hpp := hly.2.2.2.1 p hp
    refine perR_g (cr_pe h hp) (by rw [k1]) (by unfold frR; rw [tb 481 (by decide), k1]) (by rw [s2 1 (by decide), (b1 1 (by omega)).2.2.1]) (hsm _ (by omega) (by omega) (by omega)) (fun b hb => congrFun (tb b ?_) _) (fun q hq => by rw [tb 482 (by decide)])
    simp only [List.mem_cons, List.not_mem_nil, or_false] at hb ⊢
    omega
  · intro v hv
    rw [htn] at hv
    by_cases hve : v = tn T
    · subst hve
      unfold towR
      rw [k2s, k4s, hrn, hr0, s3, if_pos rfl, (s1 t).1, (s1 (t + 1)).1, (s1 (t + 1)).2, (s1 (t + 2)).1, (s1 (t + 2)).2, s2 t (by omega), i1 t (by omega), i1 (t + 2) (by omega), t3, if_pos rfl, t4, if_pos rfl, tb 485 (by decide), tb 490 (by decide)]
      exact ⟨rfl, w3, w15, w16, w17.trans z1.symm, w4, w7, w8, w5, w9, w10, w6, fun p hp => (w19 p hp).trans (z4 p hp).symm, fun r hr => absurd hr (Nat.not_lt_zero _)⟩
    · have hv2 : v < tn T := by omega
      have hv5 := hly.2.2.2.2.1 v hv2
      refine towR_g (cr_to h hv2) ⟨k2 v hve, k4 v hve, fun r _ => by rw [k3]⟩ (by rw [s3, if_neg hve]) ⟨hsm _ (by omega) (by omega) (by omega), hsm _ (by omega) (by omega) (by omega), hsm _ (by omega) (by omega) (by omega)⟩ (fun r hr => by have := hly.2.2.2.2.2.1 v r hv2 hr; exact hsm _ (by omega) (by omega) (by omega)) (fun b hb => ?_) (fun p hp => by rw [tb 490 (by decide)]) (fun b r hb hr => congrFun (tb b ?_) _)
      · simp only [List.mem_cons, List.not_mem_nil, or_false] at hb
        rcases hb with rfl | rfl | rfl
        · rw [t3, if_neg hve]
        · rw [t4, if_neg hve]
        · rw [tb 485 (by decide)]
      · simp only [List.mem_cons, List.not_mem_nil, or_false] at hb ⊢
        omega
  · intro v hv
    rw [htn] at hv
    have hru := rulesOf_k (T := T) (T' := T') ⟨tb 504 (by decide), tb 505 (by decide)⟩ v
    by_cases hve : v = tn T
    · subst hve
      unfold cntR
      rw [hru, (rules_0 z2).2, k4s, tb 506 (by decide), z3]
      refine ⟨⟨(s1 (t + 3)).1.trans w11, (congrFun (i1 (t + 3) (by omega)) 2).trans w18, Nat.zero_le _, t + 4, 1, (congrFun (s2 (t + 3) (by omega)) 1).trans w12, (s1 (t + 4)).1.trans w13, (s1 (t + 4)).2.trans w14, Nat.zero_le _, by decide, fun k q hk => by cases hk⟩, rfl⟩
    · exact cntR_g (cr_ct h (by omega)) (k4 v hve) him hru (by rw [tb 506 (by decide)])
  · exact coNo_k (cr_no h) ⟨hfx 3 (by decide) (by decide), hfx 4 (by decide) (by decide), hfx 5 (by decide) (by decide), hfx 6 (by decide) (by decide)⟩ (by show nt _ = nt _; rw [t0]; rfl) ⟨tb _ (by decide), tb _ (by decide), tb _ (by decide)⟩
  · exact coTp_k (cr_tp h) (hfx 7 (by decide) (by decide)) (by show nt _ = nt _; rw [t0]; rfl) (tb _ (by decide))
  · exact coBk_k (cr_bk h) (fun a q1 q2 => hfx a (by omega) (by omega)) ⟨tb _ (by decide), tb _ (by decide), tb _ (by decide)⟩
  · refine coTr_k (cr_tr h) (fun a q1 q2 => hfx a (by omega) (by omega)) (fun b hb => tb b ?_)
    simp only [List.mem_cons, List.not_mem_nil, or_false] at hb ⊢
    omega
  · obtain ⟨h1, h2, h3, h4, h5, h6, h7⟩ := hly
    have hst : S'.2.2.2 = t + 5 := by rw [hS']; exact w1
    have hlt : ∀ v r, v < tn T + 1 → r < rn T v → v < tn T := fun v r q1 q2 => by
      by_cases e : v = tn T
      · subst e
        omega
      · omega
    unfold layR
    rw [hpn, htn, hst, k1, k3]
    simp only [hrn]
    refine ⟨h1, fun a b q1 q2 e => ?_, fun a b r s q1 q2 q3 q4 => h3 a b r s (hlt a r q1 q3) (hlt b s q2 q4) q3 q4, fun p hp => ⟨(h4 p hp).1, by have := (h4 p hp).2; omega⟩, fun v hv => ?_, fun v r q1 q2 => ⟨(h6 v r (hlt v r q1 q2) q2).1, by have := (h6 v r (hlt v r q1 q2) q2).2; omega⟩, by omega⟩
    · by_cases ea : a = tn T
      · by_cases eb : b = tn T
        · omega
        · rw [ea, k2s, k2 b eb] at e
          have := (h5 b (by omega)).2
          omega
      · by_cases eb : b = tn T
        · rw [eb, k2s, k2 a ea] at e
          have := (h5 a (by omega)).2
          omega
        · rw [k2 a ea, k2 b eb] at e
          exact h2 a b (by omega) (by omega) e
    · by_cases ev : v = tn T
      · rw [ev, k2s]
        omega
      · rw [k2 v ev]
        have := h5 v (by omega)
        omega
end
section Co17
variable {w : Wd} {l : Launch} {K : Ly} {S : Sh} {I T : Mi} {J : Ml}
theorem kX1_town (hR : CoR K S I T) (hI : Tok T) (hN : NtOk T) (hb : S.2.2.2 < 9999990) {k : Int32} : Ct w l yX1_town cX1_town 2 (some .int) 5 5 30 [.ref 0, .int k] S I J (Qp (sp_town T k) S I J 5) := by
  refine Ct.of [some _, some _] rfl (Nat.le_of_ble_eq_true rfl) (by decide) ?_
  intro κ hκ C
  subst hκ
  have hC := cr_S hR
  have hp10 := tk_p2 hI
  have ht6 := tk_t2 hI
  have hg30 := tk_g2 hI
  have hc30 := tk_c2 hI
  have hn500 := tk_n2 hI
  refine x_iload_n C dX1_town_0 1 rfl rfl ?_
  refine x_ic (j := 1) C dX1_town_1 2 rfl ?_
  refine x_ic (j := 5) C dX1_town_2 3 rfl ?_
  refine x_callS C lk_X1_108 dX1_town_3 6 rfl [_, _, _] [] rfl rfl (Nat.le_of_ble_eq_true rfl) (by decide) (by decide) (by decide) kX1_in ?_
  rintro _ _ _ _ ⟨rfl, rfl, rfl, rfl⟩
  refine x_ifeqZ C dX1_town_6 9 25 rfl (by decide) (fun h6 => ?_) (fun h6 => ?_)
  · refine x_icm C dX1_town_25 26 rfl ?_
    exact x_iret C dX1_town_26 (by decide) (by decide) (Qp_n hR (by simp [sp_town, no1, h6]))
  · refine x_aloadr_n C dX1_town_9 10 rfl rfl ?_
    refine x_geti C fl_X1_112 (Or.inl rfl) dX1_town_10 13 rfl hC.1 (cs_townMany hR) ?_
    refine x_bip (j := 6) C dX1_town_13 15 rfl (by decide) ?_
    refine x_icmpeq C dX1_town_15 18 25 rfl (by decide) (fun h15 => ?_) (fun h15 => ?_)
    · have e15 := eq_true h15
      refine x_icm C dX1_town_25 26 rfl ?_
      exact x_iret C dX1_town_26 (by decide) (by decide) (Qp_n hR (by simp [sp_town, no1, h6, e15]))
    · refine x_aloadr_n C dX1_town_18 19 rfl rfl ?_
      refine x_geti C fl_X1_115 (Or.inl rfl) dX1_town_19 22 rfl hC.1 (cs_closed hR) ?_
      refine x_ifle C dX1_town_22 25 27 rfl (by decide) (fun h22 => ?_) (fun h22 => ?_)
      · have hn : tn T < 6 := by have : ¬ tn T = 6 := fun q => h15 (by rw [tk_t hI, q]); omega
        have h520 := (cr_ly hR).2.2.2.2.2.2
        refine x_top (fun htop => ?_)
        have hsp : sp_town T k = (nI (tn T), spT T (tn T) k) := by
          unfold sp_town spT
          rw [← nI_add, ← tk_t hI]
          simp [h6, h15, h22]
        obtain ⟨t, ht⟩ : ∃ t, S.2.2.2 = t := ⟨_, rfl⟩
        rw [ht] at h520 hb
        have hw : ∀ i, wr I t (fun _ => 0) 0 i = I 0 i := fun i => congrFun (wr_n _ _ (by omega)) i
        refine x_aloadr_n C dX1_town_27 28 rfl rfl ?_
        refine x_getr C fl_X1_17 (Or.inr ⟨_, rfl⟩) dX1_town_28 31 rfl hC.1 (coR_towns hC) ?_
        refine x_aloadr_n C dX1_town_31 32 rfl rfl ?_
        refine x_geti C fl_X1_112 (Or.inl rfl) dX1_town_32 35 rfl hC.1 ((cs_townMany hR).trans (tk_t hI)) ?_
        refine x_new C nl_X1_15 dX1_town_35 38 rfl t ht (by omega) (by decide) (by decide) ?_
        refine x_dup C dX1_town_38 39 rfl rfl ?_
        refine x_iload_n C dX1_town_39 40 rfl rfl ?_
        refine x_aloadr_n C dX1_town_40 41 rfl rfl ?_
        refine x_geti C fl_X1_178 (Or.inl rfl) dX1_town_41 44 rfl ((newS_n (show 0 ≠ t by omega)).1.trans hC.1) ((hw _).trans (cs_nightMany hR)) ?_
        refine x_callI C lk_X1_181 dX1_town_44 47 rfl [_, _] [_, _, _] rfl rfl (newS_s (S := S) (t := t) (k := 4) (n := 0)).1 (by decide) (Nat.le_of_ble_eq_true rfl) (by decide) (by decide) (by decide) (kX5_init newS_s.1 newS_e4 (by omega) (by rw [wr_s])) ?_
        intro r S1 I1 J1 hP
        have hr0 := hP.1
        subst hr0
        have hfin := CoR_town hR hI hN hn ht (fun a q => htop a (by omega)) hP
        obtain ⟨-, w1, w2, w3, w4, w5, w6, w7, w8, w9, w10, w11, w12, w13, w14, w15, w16, w17, w18, w19⟩ := hP
        have b0 : ∀ i, I1 0 i = I 0 i := fun i => by rw [(w2 0 (by omega)).2.2.2.1]; exact hw i
        have e2 : S1.1 2 = 105 := ((w2 2 (by omega)).1.trans (newS_n (by omega)).1).trans (coA_towns hC)
        have e3 : S1.2.1 2 = 6 := ((w2 2 (by omega)).2.1.trans (newS_n (by omega)).2.1).trans (coN_towns hC)
        have e0 : S1.1 0 = 0 := ((w2 0 (by omega)).1.trans (newS_n (by omega)).1).trans hC.1
        refine x_aast (t := 5) C dX1_town_47 48 rfl e2 (by decide) e3 rfl (by omega) (by decide) w3 (by decide) rfl ⟨_, rfl, Or.inl rfl⟩ ?_
        refine x_aloadr_n C dX1_town_48 49 rfl rfl ?_
        refine x_dup C dX1_town_49 50 rfl rfl ?_
        refine x_geti C fl_X1_178 (Or.inl rfl) dX1_town_50 53 rfl e0 ((b0 _).trans (cs_nightMany hR)) ?_
        refine x_iload_n C dX1_town_53 54 rfl rfl ?_
        refine x_iadd C dX1_town_54 55 rfl rfl ?_
        refine x_puti C fl_X1_178 (Or.inl rfl) (Or.inl rfl) dX1_town_55 58 rfl e0 ?_
        refine x_aloadr_n C dX1_town_58 59 rfl rfl ?_
        refine x_dup C dX1_town_59 60 rfl rfl ?_
        refine x_geti C fl_X1_112 (Or.inl rfl) dX1_town_60 63 rfl e0 ((b0 _).trans ((cs_townMany hR).trans (tk_t hI))) ?_
        refine x_ic (j := 1) C dX1_town_63 64 rfl ?_
        refine x_iadd C dX1_town_64 65 rfl (nI_add _ _) ?_
        refine x_puti C fl_X1_112 (Or.inl rfl) (Or.inl rfl) dX1_town_65 68 rfl e0 ?_
        refine x_aloadr_n C dX1_town_68 69 rfl rfl ?_
        refine x_geti C fl_X1_112 (Or.inl rfl) dX1_town_69 72 rfl e0 (sto_ss _ _ _ _) ?_
        refine x_ic (j := 1) C dX1_town_72 73 rfl ?_
        refine x_isub C dX1_town_73 74 rfl (pk_sub (by omega)) ?_
        exact x_iret C dX1_town_74 (by decide) (by decide) (Qp_a hsp hfin (fz_sto (fz_sto (fun a q1 q2 => by rw [(w2 a (by omega)).2.2.2.1, wr_n _ _ (by omega)]) (by decide)) (by decide)) (fzS_set (fun a q1 q2 => ⟨(w2 a (by omega)).1.trans (newS_n (by omega)).1, (w2 a (by omega)).2.1.trans (newS_n (by omega)).2.1, (w2 a (by omega)).2.2.1.trans (newS_n (by omega)).2.2⟩) (by decide)) (fun a q1 q2 => by rw [(w2 a (by omega)).2.2.2.2, wr_n _ _ (by omega)]) (by rw [ht]; show S1.2.2.2 ≤ _; omega))
      · refine x_icm C dX1_town_25 26 rfl ?_
        exact x_iret C dX1_town_26 (by decide) (by decide) (Qp_n hR (by simp [sp_town, no1, h6, h15, h22]))
end Co17
