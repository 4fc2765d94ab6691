/-! the component: a new room -/
def roI (I : Mi) (a : Nat) (be pr : Int32) (lo : Bool) : Mi := sto (sto (sto (sto I a 3 (nI 1)) a 0 be) a 2 (bz lo)) a 1 pr
theorem roI_n {I : Mi} {a b : Nat} {be pr : Int32} {lo : Bool} (h : b ≠ a) : roI I a be pr lo b = I b := by
  unfold roI
  rw [sto_n _ _ _ h, sto_n _ _ _ h, sto_n _ _ _ h, sto_n _ _ _ h]
theorem roI_s {I : Mi} {a : Nat} {be pr : Int32} {lo : Bool} : roI I a be pr lo a 0 = be ∧ roI I a be pr lo a 1 = pr ∧ roI I a be pr lo a 2 = bz lo ∧ roI I a be pr lo a 3 = nI 1 := by
  unfold roI
  simp [sto_at]
def spR (T : Mi) (u n : Nat) (be pr : Int32) (lo : Bool) : Mi := sto (sto (sto (sto (sto T 486 (10 * u + n) be) 487 (10 * u + n) (bz lo)) 488 (10 * u + n) pr) 489 (10 * u + n) (nI 1)) 485 u (nI (n + 1))
section
variable {K : Ly} {S : Sh} {I T : Mi}
theorem CoR_room (h : CoR K S I T) (hI : Tok T) {u : Nat} (hu : u < tn T) (hn : rn T u < 10) {t : Nat} (ht : S.2.2.2 = t) (htop : S.1 t = 999) {be pr : Int32} {lo : Bool} :
    CoR (K.1, K.2.1, (fun v r => if v = u ∧ r = rn T u then t else ra K v r), K.2.2.2) (setR (newS S t 5 0) (ta K u + 1) (rn T u) (some t)) (sto (roI (wr I t (fun _ => 0)) t be pr lo) (ta K u) 3 (nI (rn T u + 1))) (spR T u (rn T u) be pr lo) := by
  have hC := cr_S h
  have hly := cr_ly h
  have ht6 := tk_t2 hI
  have h520 : 520 ≤ t := by have := hly.2.2.2.2.2.2; omega
  have hu5 := hly.2.2.2.2.1 u hu
  obtain ⟨S', hS'⟩ : ∃ S', S' = setR (newS S t 5 0) (ta K u + 1) (rn T u) (some t) := ⟨_, rfl⟩
  obtain ⟨I', hI'⟩ : ∃ I', I' = sto (roI (wr I t (fun _ => 0)) t be pr lo) (ta K u) 3 (nI (rn T u + 1)) := ⟨_, rfl⟩
  obtain ⟨T', hT'⟩ : ∃ T', T' = spR T u (rn T u) be pr lo := ⟨_, rfl⟩
  obtain ⟨K', hK'⟩ : ∃ K' : Ly, K' = (K.1, K.2.1, (fun v r => if v = u ∧ r = rn T u then t else ra K v r), K.2.2.2) := ⟨_, rfl⟩
  have k1 : pa K' = pa K := by rw [hK']
  have k2 : ta K' = ta K := by rw [hK']
  have k4 : ca K' = ca K := by rw [hK']
  have k3 : ∀ v r, ra K' v r = if v = u ∧ r = rn T u then t else ra K v r := fun v r => by rw [hK']
  have s1 : ∀ a, a ≠ t → S'.1 a = S.1 a ∧ S'.2.1 a = S.2.1 a := fun a ha => by rw [hS']; exact ⟨(newS_n (S := S) (k := 5) (n := 0) ha).1, (newS_n (S := S) (k := 5) (n := 0) ha).2.1⟩
  have s2 : ∀ a, a ≠ t → a ≠ ta K u + 1 → S'.2.2.1 a = S.2.2.1 a := fun a ha hb => by
    rw [hS']
    show sto (newS S t 5 0).2.2.1 (ta K u + 1) (rn T u) (some t) a = _
    rw [sto_n _ _ _ hb, (newS_n ha).2.2]
  have s3 : ∀ i, S'.2.2.1 (ta K u + 1) i = if i = rn T u then some t else S.2.2.1 (ta K u + 1) i := fun i => by
    rw [hS']
    show sto (newS S t 5 0).2.2.1 (ta K u + 1) (rn T u) (some t) (ta K u + 1) i = _
    rw [sto_at, (newS_n (show ta K u + 1 ≠ t by omega)).2.2]
    simp
  have s4 : S'.1 t = 5 ∧ S'.2.2.2 = t + 1 := by
    rw [hS']
    exact ⟨(newS_s (S := S) (t := t) (k := 5) (n := 0)).1, rfl⟩
  have i1 : ∀ a, a ≠ t → a ≠ ta K u → I' a = I a := fun a ha hb => by rw [hI', sto_n _ _ _ hb, roI_n ha, wr_n _ _ ha]
  have i0 : ∀ i, I' (ta K u) i = if i = 3 then nI (rn T u + 1) else I (ta K u) i := fun i => by
    rw [hI', sto_at, roI_n (by omega), wr_n _ _ (by omega)]
    simp
  have it : I' t = roI (wr I t (fun _ => 0)) t be pr lo t := by rw [hI', sto_n _ _ _ (by omega)]
  have tb : ∀ b, b ∉ [485, 486, 487, 488, 489] → T' b = T b := fun b hb => by
    simp only [List.mem_cons, List.not_mem_nil, or_false] at hb
    rw [hT']
    unfold spR
    rw [sto_n _ _ _ (by omega), sto_n _ _ _ (by omega), sto_n _ _ _ (by omega), sto_n _ _ _ (by omega), sto_n _ _ _ (by omega)]
  have t5 : ∀ v, T' 485 v = if v = u then nI (rn T u + 1) else T 485 v := fun v => by
    rw [hT']
    unfold spR
    rw [sto_at]
    simp only [true_and]
    rfl
  have tq : ∀ b q, b ≠ 485 → q ≠ 10 * u + rn T u → T' b q = T b q := fun b q hb hq => by
    rw [hT']
    unfold spR
    rw [sto_n _ _ _ hb, sto_at, sto_at, sto_at, sto_at, if_neg (by omega), if_neg (by omega), if_neg (by omega), if_neg (by omega)]
  have tn' : T' 486 (10 * u + rn T u) = be ∧ T' 487 (10 * u + rn T u) = bz lo ∧ T' 488 (10 * u + rn T u) = pr ∧ T' 489 (10 * u + rn T u) = nI 1 := by
    rw [hT']
    unfold spR
    simp [sto_at]
  have e473 := tb 473 (by decide)
  have hru : rn T' u = rn T u + 1 := by show nt _ = _; rw [t5, if_pos rfl, nt_nI (by omega)]
  have hrv : ∀ v, v ≠ u → rn T' v = rn T v := fun v hv => by show nt _ = nt _; rw [t5, if_neg hv]
  rw [← hS', ← hI', ← hT', ← hK']
  have hsm : ∀ a, a ≠ t → a ≠ ta K u → a ≠ ta K u + 1 → sm S I S' I' a := fun a q1 q2 q3 => ⟨(s1 a q1).1, (s1 a q1).2, s2 a q1 q3, i1 a q1 q2⟩
  have hfx : ∀ a, a < 520 → I' a = I a := fun a q1 => i1 a (by omega) (by omega)
  refine ⟨coS_g hC (fun a q => ⟨(s1 a (by omega)).1, (s1 a (by omega)).2, fun q1 _ => s2 a (by omega) (by omega)⟩), ?_, ?_, ?_, ?_, ?_, ?_, ?_, ?_, ?_⟩
  · have := h.2.1
    unfold coSc at this ⊢
    rw [hfx 0 (by decide), e473]
    exact this
  · show ∀ p, p < nt (T' 473 1) → _
    rw [e473]
    intro p hp
    have hpp := hly.2.2.2.1 p hp
    refine perR_g (cr_pe h hp) (by rw [k1]) (by unfold frR; rw [tb 481 (by decide), k1]) (by rw [s2 1 (by omega) (by omega)]) (hsm _ (by omega) (ap_tag (cp_T h hp) (ct_T h hu) (by decide)) (ap_tag (cp_T h hp) (ct_roomsA h hu) (by decide))) (fun b hb => congrFun (tb b ?_) _) (fun q hq => by rw [tb 482 (by decide)])
    simp only [List.mem_cons, List.not_mem_nil, or_false] at hb ⊢
    omega
  · show ∀ v, v < nt (T' 473 11) → _
    rw [e473]
    intro v hv
    have hv5 := hly.2.2.2.2.1 v hv
    have hr6 := fun (r : Nat) (hr : r < rn T v) => hly.2.2.2.2.2.1 v r hv hr
    have hra : ∀ r, r < rn T v → sm S I S' I' (ra K v r) := fun r hr => hsm _ (by have := hr6 r hr; omega) (ap_tag (cm_T h hv hr) (ct_T h hu) (by decide)) (ap_tag (cm_T h hv hr) (ct_roomsA h hu) (by decide))
    have hli : sm S I S' I' (ta K v + 2) := hsm _ (by omega) (ap_tag (ct_listA h hv) (ct_T h hu) (by decide)) (ap_tag (ct_listA h hv) (ct_roomsA h hu) (by decide))
    by_cases hvu : v = u
    · subst hvu
      obtain ⟨g1, g2, g3, g4, g5, g6, g7, g8, g9, g10, g11, g12, g13, g14⟩ := cr_to h hv
      obtain ⟨l1, l2, l3, l4⟩ := hli
      unfold towR
      rw [k2, k4, hru, l1, l2, l4, (s1 (ta K v) (by omega)).1, (s1 (ta K v + 1) (by omega)).1, (s1 (ta K v + 1) (by omega)).2, s2 (ta K v) (by omega) (by omega), s2 2 (by omega) (by omega), tb 490 (by decide), tb 483 (by decide), tb 484 (by decide), i0, i0, i0, t5]
      refine ⟨g1, g2, g3, g4, by rw [if_pos rfl, if_pos rfl], g6, g7, g8, g9, g10, g11, g12, g13, fun r hr => ?_⟩
      unfold rooR
      rw [k2, s3, k3]
      by_cases hr2 : r = rn T v
      · obtain ⟨p0, p1, p2, p3⟩ := @roI_s (wr I t (fun _ => 0)) t be pr lo
        rw [if_pos hr2, if_pos ⟨rfl, hr2⟩, it, p0, p1, p2, p3, hr2, tn'.1, tn'.2.1, tn'.2.2.1, tn'.2.2.2]
        exact ⟨rfl, s4.1, rfl, rfl, rfl, rfl⟩
      · obtain ⟨d1, d2, d3, d4⟩ := hra r (by omega)
        rw [if_neg hr2, if_neg (fun e => hr2 e.2), d1, d4, tq 486 _ (by decide) (by omega), tq 487 _ (by decide) (by omega), tq 488 _ (by decide) (by omega), tq 489 _ (by decide) (by omega)]
        exact g14 r (by omega)
    · have hne : ta K v ≠ ta K u := fun e => hvu (hly.2.1 v u hv hu e)
      have hv6 : v < tn T := hv
      have hr10 := tk_r2 hI (show v < 6 by omega)
      refine towR_g (cr_to h hv) ⟨by rw [k2], by rw [k4], fun r hr => by rw [k3, if_neg (fun e => hvu e.1)]⟩ (by rw [s2 2 (by omega) (by omega)]) ⟨hsm _ (by omega) hne (ap_tag (ct_T h hv) (ct_roomsA h hu) (by decide)), hsm _ (by omega) (ap_tag (ct_roomsA h hv) (ct_T h hu) (by decide)) (by omega), hli⟩ hra (fun b hb => ?_) (fun p hp => by rw [tb 490 (by decide)]) (fun b r hb hr => tq b _ ?_ (by omega))
      · simp only [List.mem_cons, List.not_mem_nil, or_false] at hb
        rcases hb with rfl | rfl | rfl
        · rw [tb 483 (by decide)]
        · rw [tb 484 (by decide)]
        · rw [t5, if_neg hvu]
      · simp only [List.mem_cons, List.not_mem_nil, or_false] at hb
        omega
  · show ∀ v, v < nt (T' 473 11) → _
    rw [e473]
    intro v hv
    refine cntR_g (cr_ct h hv) (by rw [k4]) (fun a ha => hsm a (fun e => ?_) (fun e => ?_) (fun e => ?_)) (rulesOf_k ⟨tb 504 (by decide), tb 505 (by decide)⟩ v) (by rw [tb 506 (by decide)])
    · rw [e, htop] at ha
      exact absurd ha (by unfold immT; omega)
    · rw [e, ct_T h hu] at ha
      exact ni_4 ha
    · rw [e, ct_roomsA h hu] at ha
      exact absurd ha (by unfold immT; omega)
  · exact coNo_k (cr_no h) ⟨hfx 3 (by decide), hfx 4 (by decide), hfx 5 (by decide), hfx 6 (by decide)⟩ (by show nt _ = nt _; rw [e473]) ⟨tb _ (by decide), tb _ (by decide), tb _ (by decide)⟩
  · exact coTp_k (cr_tp h) (hfx 7 (by decide)) (by show nt _ = nt _; rw [e473]) (tb _ (by decide))
  · exact coBk_k (cr_bk h) (fun a q1 q2 => hfx a (by omega)) ⟨tb _ (by decide), tb _ (by decide), tb _ (by decide)⟩
  · refine coTr_k (cr_tr h) (fun a q1 q2 => hfx a (by omega)) (fun b hb => tb b ?_)
    simp only [List.mem_cons, List.not_mem_nil, or_false] at hb ⊢
    omega
  · obtain ⟨h1, h2, h3, h4, h5, h6, h7⟩ := hly
    have hp' : pn T' = pn T := by show nt _ = nt _; rw [e473]
    have ht' : tn T' = tn T := by show nt _ = nt _; rw [e473]
    have hrr : ∀ v r, r < rn T' v → (v = u ∧ r = rn T u) ∨ (r < rn T v ∧ ¬ (v = u ∧ r = rn T u)) := by
      intro v r hr
      by_cases e : v = u
      · subst e
        rw [hru] at hr
        omega
      · rw [hrv v e] at hr
        omega
    unfold layR
    rw [hp', ht', s4.2, k1, k2]
    refine ⟨h1, h2, fun a b r s q1 q2 q3 q4 e => ?_, fun p hp => ⟨(h4 p hp).1, by have := (h4 p hp).2; omega⟩, fun v hv => ⟨(h5 v hv).1, by have := (h5 v hv).2; omega⟩, fun v r q1 q2 => ?_, by omega⟩
    · rw [k3, k3] at e
      rcases hrr a r q3 with z1 | z1
      · rcases hrr b s q4 with z2 | z2
        · omega
        · rw [if_pos z1, if_neg z2.2] at e
          have := (h6 b s q2 z2.1).2
          omega
      · rcases hrr b s q4 with z2 | z2
        · rw [if_neg z1.2, if_pos z2] at e
          have := (h6 a r q1 z1.1).2
          omega
        · rw [if_neg z1.2, if_neg z2.2] at e
          exact h3 a b r s q1 q2 z1.1 z2.1 e
    · rw [k3]
      rcases hrr v r q2 with z1 | z1
      · rw [if_pos z1]
        omega
      · rw [if_neg z1.2]
        have := h6 v r q1 z1.1
        omega
end
section Co15
variable {w : Wd} {l : Launch} {K : Ly} {S : Sh} {I T : Mi} {J : Ml}
theorem kX6_init {a : Nat} (hT : S.1 a = 5) {be pr : Int32} {lo : Bool} : Ct w l yX6_init cX6_init 4 none 1 0 0 [.ref a, .int be, .int (bz lo), .int pr] S I J (Qv (roI I a be pr lo) S J) := by
  refine Ct.of [some _, some _, some _, some _] rfl (Nat.le_of_ble_eq_true rfl) (by decide) ?_
  intro κ hκ C
  subst hκ
  refine x_aloadr_n C dX6_init_0 1 rfl rfl ?_
  refine x_obj C q476 dX6_init_1 4 rfl (Nat.le_of_ble_eq_true rfl) (by decide) ?_
  refine x_aloadr_n C dX6_init_4 5 rfl rfl ?_
  refine x_ic (j := 1) C dX6_init_5 6 rfl ?_
  refine x_puti C fl_X6_7 (Or.inr ⟨Or.inl rfl, ⟨rfl, rfl⟩⟩) (Or.inl rfl) dX6_init_6 9 rfl hT ?_
  refine x_aloadr_n C dX6_init_9 10 rfl rfl ?_
  refine x_iload_n C dX6_init_10 11 rfl rfl ?_
  refine x_puti C fl_X6_13 (Or.inl rfl) (Or.inr ⟨rfl, _, rfl, rfl⟩) dX6_init_11 14 rfl hT ?_
  refine x_aloadr_n C dX6_init_14 15 rfl rfl ?_
  refine x_iload_n C dX6_init_15 16 rfl rfl ?_
  refine x_puti C fl_X6_17 (Or.inr ⟨Or.inl rfl, ⟨bz_nar _, bz_fit _⟩⟩) (Or.inr ⟨rfl, _, rfl, rfl⟩) dX6_init_16 19 rfl hT ?_
  refine x_aloadr_n C dX6_init_19 20 rfl rfl ?_
  refine x_iload_n C dX6_init_20 21 rfl rfl ?_
  refine x_puti C fl_X6_20 (Or.inl rfl) (Or.inr ⟨rfl, _, rfl, rfl⟩) dX6_init_21 24 rfl hT ?_
  exact x_vret C dX6_init_24 (Nat.le_refl _) (Nat.le_refl _) (Qv_of rfl)
theorem kX1_room (hR : CoR K S I T) (hI : Tok T) (hb : S.2.2.2 < 9999999) {t be pr : Int32} {lo : Bool} : Ct w l yX1_room cX1_room 6 (some .int) 3 1 4 [.ref 0, .int t, .int be, .int (bz lo), .int pr] S I J (Qp (sp_room T t be lo pr) S I J 1) := by
  refine Ct.of [some _, some _, some _, some _, some _, none] rfl (Nat.le_of_ble_eq_true rfl) (by decide) ?_
  intro κ hκ C
  subst hκ
  have hC := cr_S hR
  have hp10 := tk_p2 hI
  have ht6 := tk_t2 hI
  have hg30 := tk_g2 hI
  have hc30 := tk_c2 hI
  have hn500 := tk_n2 hI
  refine x_aloadr_n C dX1_room_0 1 rfl rfl ?_
  refine x_iload_n C dX1_room_1 2 rfl rfl ?_
  refine x_callV C lk_X1_124 dX1_room_2 5 rfl [_] [] rfl rfl hC.1 (Nat.le_of_ble_eq_true rfl) (by decide) (by decide) (by decide) (kX1_isTown hR) ?_
  rintro _ _ _ _ ⟨rfl, rfl, rfl, rfl⟩
  refine x_ifeqZ C dX1_room_5 8 51 rfl (by decide) (fun h5 => ?_) (fun h5 => ?_)
  · refine x_icm C dX1_room_51 52 rfl ?_
    exact x_iret C dX1_room_52 (by decide) (by decide) (Qp_n hR (by simp [sp_room, opB, no1, h5]))
  · obtain ⟨u, hu, rfl⟩ := to_I hI h5
    have et : nt (nI u) = u := nt_nI (by omega)
    refine x_aloadr_n C dX1_room_8 9 rfl rfl ?_
    refine x_iload_n C dX1_room_9 10 rfl rfl ?_
    refine x_callV C lk_X1_157 dX1_room_10 13 rfl [_] [] rfl rfl hC.1 (Nat.le_of_ble_eq_true rfl) (by decide) (by decide) (by decide) (kX1_isOver hR hI hu) ?_
    rintro _ _ _ _ ⟨rfl, rfl, rfl, rfl⟩
    refine x_ifneZ C dX1_room_13 16 51 rfl (by decide) (fun h13 => ?_) (fun h13 => ?_)
    · refine x_icm C dX1_room_51 52 rfl ?_
      exact x_iret C dX1_room_52 (by decide) (by decide) (Qp_n hR (by simp [sp_room, opB, no1, h5, et, h13]))
    · refine x_iload_n C dX1_room_16 17 rfl rfl ?_
      refine x_ic (j := 1) C dX1_room_17 18 rfl ?_
      refine x_ic (j := 2) C dX1_room_18 19 rfl ?_
      refine x_callS C lk_X1_108 dX1_room_19 22 rfl [_, _, _] [] rfl rfl (Nat.le_of_ble_eq_true rfl) (by decide) (by decide) (by decide) kX1_in ?_
      rintro _ _ _ _ ⟨rfl, rfl, rfl, rfl⟩
      refine x_ifeqZ C dX1_room_22 25 51 rfl (by decide) (fun h22 => ?_) (fun h22 => ?_)
      · refine x_icm C dX1_room_51 52 rfl ?_
        exact x_iret C dX1_room_52 (by decide) (by decide) (Qp_n hR (by simp [sp_room, opB, no1, h5, et, h13, h22]))
      · refine x_iload C dX1_room_25 27 rfl rfl ?_
        refine x_ic (j := 1) C dX1_room_27 28 rfl ?_
        refine x_sip (j := 1000) C dX1_room_28 31 rfl (by decide) ?_
        refine x_callS C lk_X1_108 dX1_room_31 34 rfl [_, _, _] [] rfl rfl (Nat.le_of_ble_eq_true rfl) (by decide) (by decide) (by decide) kX1_in ?_
        rintro _ _ _ _ ⟨rfl, rfl, rfl, rfl⟩
        refine x_ifeqZ C dX1_room_34 37 51 rfl (by decide) (fun h34 => ?_) (fun h34 => ?_)
        · refine x_icm C dX1_room_51 52 rfl ?_
          exact x_iret C dX1_room_52 (by decide) (by decide) (Qp_n hR (by simp [sp_room, opB, no1, h5, et, h13, h22, h34]))
        · refine x_aloadr_n C dX1_room_37 38 rfl rfl ?_
          refine x_getr C fl_X1_17 (Or.inr ⟨_, rfl⟩) dX1_room_38 41 rfl hC.1 (coR_towns hC) ?_
          refine x_iload_n C dX1_room_41 42 rfl rfl ?_
          refine x_aaldr (t := 5) C dX1_room_42 43 rfl (coA_towns hC) (by decide) (coN_towns hC) rfl (by omega) (by decide) (ct_elt hR hu) ?_
          refine x_geti C fl_X1_128 (Or.inl rfl) dX1_room_43 46 rfl (ct_T hR hu) (ct_roomMany hR hu) ?_
          refine x_bip (j := 10) C dX1_room_46 48 rfl (by decide) ?_
          refine x_icmpne C dX1_room_48 51 53 rfl (by decide) (fun h48 => ?_) (fun h48 => ?_)
          · have hn : rn T u < 10 := by have h1 := tk_r2 hI (show u < 6 by omega); have : ¬ rn T u = 10 := fun q => h48 (by rw [tk_r hI (by omega), q]); omega
            have h520 := (cr_ly hR).2.2.2.2.2.2
            have hu5 := (cr_ly hR).2.2.2.2.1 u hu
            refine x_top (fun htop => ?_)
            have hfin := CoR_room hR hI hu hn rfl (htop _ (Nat.le_refl _)) (be := be) (pr := pr) (lo := lo)
            have hsp : sp_room T (nI u) be lo pr = (nI (rn T u), spR T u (rn T u) be pr lo) := by
              unfold sp_room spR
              rw [← nI_add, ← tk_r hI (by omega)]
              simp [opB, h5, et, h13, h22, h34, h48]
            obtain ⟨t, ht⟩ : ∃ t, S.2.2.2 = t := ⟨_, rfl⟩
            rw [ht] at h520 hb hfin hu5
            have e1 : (newS S t 5 0).1 (ta K u + 1) = 106 := (newS_n (by omega)).1.trans (ct_roomsA hR hu)
            have e2 : (newS S t 5 0).2.1 (ta K u + 1) = 10 := (newS_n (by omega)).2.1.trans (ct_roomsN hR hu)
            have e3 : (newS S t 5 0).1 (ta K u) = 4 := (newS_n (by omega)).1.trans (ct_T hR hu)
            have e4 : (newS S t 5 0).1 t = 5 := newS_s.1
            have hw : ∀ i, roI (wr I t (fun _ => 0)) t be pr lo (ta K u) i = I (ta K u) i := fun i => by rw [roI_n (by omega), wr_n _ _ (by omega)]
            refine x_aloadr_n C dX1_room_53 54 rfl rfl ?_
            refine x_getr C fl_X1_17 (Or.inr ⟨_, rfl⟩) dX1_room_54 57 rfl hC.1 (coR_towns hC) ?_
            refine x_iload_n C dX1_room_57 58 rfl rfl ?_
            refine x_aaldr (t := 5) C dX1_room_58 59 rfl (coA_towns hC) (by decide) (coN_towns hC) rfl (by omega) (by decide) (ct_elt hR hu) ?_
            refine x_astorer C dX1_room_59 61 rfl [_, _, _, _, _, _] (by decide) rfl rfl ?_
            refine x_aloadr C dX1_room_61 63 rfl rfl ?_
            refine x_getr C fl_X1_187 (Or.inr ⟨_, rfl⟩) dX1_room_63 66 rfl (ct_T hR hu) (ct_rooms hR hu) ?_
            refine x_aloadr C dX1_room_66 68 rfl rfl ?_
            refine x_geti C fl_X1_128 (Or.inl rfl) dX1_room_68 71 rfl (ct_T hR hu) ((ct_roomMany hR hu).trans (tk_r hI (by omega))) ?_
            refine x_new C nl_X1_191 dX1_room_71 74 rfl _ ht hb (by decide) (by decide) ?_
            refine x_dup C dX1_room_74 75 rfl rfl ?_
            refine x_iload_n C dX1_room_75 76 rfl rfl ?_
            refine x_iload_n C dX1_room_76 77 rfl rfl ?_
            refine x_iload C dX1_room_77 79 rfl rfl ?_
            refine x_callI C lk_X1_193 dX1_room_79 82 rfl [_, _, _] [_, _, _] rfl rfl e4 (by decide) (Nat.le_of_ble_eq_true rfl) (by decide) (by decide) (by decide) (kX6_init e4) ?_
            rintro _ _ _ _ ⟨rfl, rfl, rfl, rfl⟩
            refine x_aast (t := 6) C dX1_room_82 83 rfl e1 (by decide) e2 rfl (by omega) (by decide) e4 (by decide) rfl ⟨_, rfl, Or.inl rfl⟩ ?_
            refine x_aloadr C dX1_room_83 85 rfl rfl ?_
            refine x_dup C dX1_room_85 86 rfl rfl ?_
            refine x_geti C fl_X1_128 (Or.inl rfl) dX1_room_86 89 rfl e3 ((hw _).trans ((ct_roomMany hR hu).trans (tk_r hI (by omega)))) ?_
            refine x_ic (j := 1) C dX1_room_89 90 rfl ?_
            refine x_iadd C dX1_room_90 91 rfl (nI_add _ _) ?_
            refine x_puti C fl_X1_128 (Or.inl rfl) (Or.inl rfl) dX1_room_91 94 rfl e3 ?_
            refine x_aloadr C dX1_room_94 96 rfl rfl ?_
            refine x_geti C fl_X1_128 (Or.inl rfl) dX1_room_96 99 rfl e3 (sto_ss _ _ _ _) ?_
            refine x_ic (j := 1) C dX1_room_99 100 rfl ?_
            refine x_isub C dX1_room_100 101 rfl (pk_sub (by omega)) ?_
            exact x_iret C dX1_room_101 (by decide) (by decide) (Qp_a hsp hfin (fz_sto (fun a q1 q2 => by rw [roI_n (by omega), wr_n _ _ (by omega)]) (by omega)) (fzS_set (fun a q1 q2 => newS_n (by omega)) (by omega)) (fun a q1 q2 => wr_n _ _ (by omega)) (by rw [ht]; exact Nat.le_refl _))
          · have e48 := eq_true h48
            refine x_icm C dX1_room_51 52 rfl ?_
            exact x_iret C dX1_room_52 (by decide) (by decide) (Qp_n hR (by simp [sp_room, opB, no1, h5, et, h13, h22, h34, e48]))
end Co15
