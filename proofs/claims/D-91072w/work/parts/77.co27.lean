/-! the component: prices of sets in rooms; the best of a room -/
def mvN (T : Mi) (t r q : Nat) : Nat := if q = 0 then 0 else cnt (mvP T t (nI r) q) 10
def prN (T : Mi) (t r q : Nat) : Nat := if q = 0 then 0 else nt (T 488 (10 * t + r))
def cpN (T : Mi) (t : Nat) (how : Int32) (r q : Nat) : Nat := if how = 0 then 16 * prN T t r q + mvN T t r q else 16384 * mvN T t r q + prN T t r q
section
variable {T : Mi} {t : Nat}
theorem Se_b {P : Nat → Nat → Bool} {wa wb : Nat → Nat → Nat} {n : Nat} (h : ∀ r q, wb r q ≤ cnt q.testBit 10) : ∀ k s A B, Se P wa wb n k s A B → B ≤ cnt s.testBit 10
  | 0, s, A, B, ⟨_, _, h3⟩ => by rw [h3]; exact Nat.zero_le _
  | k + 1, s, A, B, ⟨q, A1, B1, _, h2, h3, _, h5⟩ => by
    have ih := Se_b h k (nd s q) A1 B1 h3
    have := h (n - (k + 1)) q
    rw [h5, cnt_nd h2 10]
    omega
theorem Se_b2 {P : Nat → Nat → Bool} {wa wb : Nat → Nat → Nat} {n : Nat} (h : ∀ r q, r < n → wb r q ≤ 1000) : ∀ k s A B, k ≤ n → Se P wa wb n k s A B → B ≤ 1000 * k
  | 0, s, A, B, _, ⟨_, _, h3⟩ => by rw [h3]; exact Nat.zero_le _
  | k + 1, s, A, B, hk, ⟨q, A1, B1, _, h2, h3, _, h5⟩ => by
    have ih := Se_b2 h k (nd s q) A1 B1 (by omega) h3
    have := h (n - (k + 1)) q (by omega)
    rw [h5]
    omega
theorem mv_le (r q : Nat) : mvN T t r q ≤ cnt q.testBit 10 := by
  unfold mvN
  split
  · exact Nat.zero_le _
  · exact cnt_imp (fun i h => by unfold mvP at h; simp only [Bool.and_eq_true] at h; exact h.1.1) 10
theorem mv_pn {r q : Nat} (hp : pn T ≤ 10) (hq : q < 2 ^ pn T) : cnt (mvP T t (nI r) q) (pn T) = cnt (mvP T t (nI r) q) 10 := (cnt_hi hp (fun i h1 _ => by
  unfold mvP
  cases e : q.testBit i with
  | false => rfl
  | true => exact absurd (bit_lt_n hq e) (by omega))).symm
theorem prN_le (hpr : prOk T t) {r q : Nat} (hr : r < rn T t) : prN T t r q ≤ 1000 ∧ (¬ q = 0 → T 488 (10 * t + r) = nI (prN T t r q)) := by
  obtain ⟨p, hp, e⟩ := hpr r hr
  unfold prN
  split
  · rename_i h0
    exact ⟨Nat.zero_le _, fun z => absurd h0 z⟩
  · rw [e, nt_nI (by omega)]
    exact ⟨hp.2, fun _ => rfl⟩
theorem wN_c (hp : pn T ≤ 10) (hpr : prOk T t) {r q : Nat} {how : Int32} (hr : r < rn T t) (hq : q < 2 ^ pn T) : wN T t how r q = if how = 0 then 32 * prN T t r q + mvN T t r q else 32768 * mvN T t r q + prN T t r q := by
  have hc := cnt_le (mvP T t (nI r) q) 10
  obtain ⟨h1, h2⟩ := prN_le hpr hr (q := q)
  unfold wN wgt
  by_cases h0 : q = 0
  · rw [if_pos h0]
    unfold prN mvN
    simp only [if_pos h0]
    split <;> rfl
  · rw [if_neg h0, mv_pn hp hq, h2 h0]
    have e : mvN T t r q = cnt (mvP T t (nI r) q) 10 := by unfold mvN; rw [if_neg h0]
    rw [e]
    split
    · rw [pk_mul, nI_add, nt_nI (by omega)]
    · rw [show (32768 : Int32) = nI 32768 from rfl, pk_mul, nI_add, nt_nI (by omega)]
theorem WOk_T (hI : Tok T) (ht : t < tn T) (hbe : bedsOk T t) (hpr : prOk T t) (how : Int32) : ∃ wa wb α β, WOk (mP T t) (fun r q => mbB T (10 * t + r) q (pn T)) (wN T t how) (cpN T t how) wa wb (rn T t) (al T t) α β := by
  have hp10 := tk_p2 hI
  have hr10 := tk_r2 hI (show t < 6 by have := tk_t2 hI; omega)
  have hal2 : al T t < 2 ^ pn T := msk_lt _ _
  have hal : al T t < 1024 := al_lt T t hp10
  have common : ∀ r q, r < rn T t → mP T t r q = true → nd q (al T t) = 0 ∧ mbB T (10 * t + r) q (pn T) = true ∧ cnt q.testBit 10 ≤ 2 := fun r q hr h => by
    obtain ⟨p1, p2⟩ := mP_al h
    exact ⟨p1, p2, mb_c2 hI ht hbe hr (sub_lt2 p1 hal2) p2⟩
  have hrev : ∀ r q, r < rn T t → nd q (al T t) = 0 → mbB T (10 * t + r) q (pn T) = true → mP T t r q = true := fun r q _ h1 h2 => by unfold mP; rw [decide_eq_true h1]; exact h2
  have hz : ∀ r, r < rn T t → mP T t r 0 = true := fun r hr => hrev r 0 hr (nd_0 _).2 mb_z
  by_cases hh : how = 0
  · refine ⟨prN T t, mvN T t, 32, 16, hr10, hal, by decide, by decide, fun r q hr h => ?_, hrev, fun r hr => ⟨hz r hr, rfl, rfl⟩, fun k s A B hk hs h => ?_⟩
    · obtain ⟨p1, p2, p3⟩ := common r q hr h
      have hm := mv_le (T := T) (t := t) r q
      have hp := (prN_le hpr hr (q := q)).1
      have hw := wN_c hp10 hpr (how := how) hr (sub_lt2 p1 hal2)
      have hcp : cpN T t how r q = 16 * prN T t r q + mvN T t r q := if_pos hh
      rw [if_pos hh] at hw
      exact ⟨p1, p2, p3, hw, by omega, hcp, by omega⟩
    · have := Se_b (fun r q => mv_le r q) k s A B h
      have := cnt_le s.testBit 10
      omega
  · refine ⟨mvN T t, prN T t, 32768, 16384, hr10, hal, by decide, by decide, fun r q hr h => ?_, hrev, fun r hr => ⟨hz r hr, rfl, rfl⟩, fun k s A B hk hs h => ?_⟩
    · obtain ⟨p1, p2, p3⟩ := common r q hr h
      have hm := mv_le (T := T) (t := t) r q
      have hp := (prN_le hpr hr (q := q)).1
      have hw := wN_c hp10 hpr (how := how) hr (sub_lt2 p1 hal2)
      have hcp : cpN T t how r q = 16384 * mvN T t r q + prN T t r q := if_neg hh
      rw [if_neg hh] at hw
      exact ⟨p1, p2, p3, hw, by omega, hcp, by omega⟩
    · have := Se_b2 (fun r q hr => (prN_le hpr hr (q := q)).1) k s A B hk h
      omega
end
section Co27
variable {w : Wd} {l : Launch} {K : Ly} {S : Sh} {I T : Mi} {J : Ml}
theorem kX1_price (hR : CoR K S I T) (hI : Tok T) {t r q : Nat} {how : Int32} (ht : t < tn T) (hr : r < rn T t) (hq : q < 1024) (hpr : prOk T t) : Ct w l yX1_price cX1_price 7 (some .long) 1 0 0 [.ref 0, .ref (ta K t), .int (nI r), .int (nI q), .int how] S I J (Qe (some (.long (nL (cpN T t how r q)))) S I J) := by
  have hr10 := tk_r2 hI (show t < 6 by have := tk_t2 hI; omega)
  obtain ⟨h1000, hpe⟩ := prN_le hpr hr (q := q)
  refine Ct.of [some _, some _, some _, some _, some _, none, none] rfl (Nat.le_of_ble_eq_true rfl) (by decide) ?_
  intro κ hκ C
  subst hκ
  refine x_iload_n C dX1_price_0 1 rfl rfl ?_
  refine x_ifneN C dX1_price_1 4 6 rfl (by decide) (by omega) (fun h1 => ?_) (fun h1 => ?_)
  · have e : mvN T t r q = cnt (mvP T t (nI r) q) 10 := by unfold mvN; rw [if_neg h1]
    refine x_ic (j := 0) C dX1_price_6 7 rfl ?_
    refine x_istore C dX1_price_7 9 rfl [_, _, _, _, _, _, _] (by decide) rfl rfl ?_
    refine x_ic (j := 0) C dX1_price_9 10 rfl ?_
    refine x_istore C dX1_price_10 12 rfl [_, _, _, _, _, _, _] (by decide) rfl rfl ?_
    have hloop12 : ∀ (j p : Nat) (c : Nat), p + j = 10 → c = cnt (mvP T t (nI r) q) p → XX w κ (Zr w κ (Qe (some (.long (nL (cpN T t how r q)))) S I J)) 0 0 12 [some (.ref 0), some (.ref (ta K t)), some (.int (nI r)), some (.int (nI q)), some (.int how), some (.int (nI c)), some (.int (nI p))] [] S I J := by
      intro j
      induction j with
      | zero =>
        intro p c e12 h_c
        have e12 : 10 = p := Eq.symm e12
        subst e12
        subst h_c
        have hcl := cnt_le (mvP T t (nI r) q) 10
        refine x_iload C dX1_price_12 14 rfl rfl ?_
        refine x_bip (j := 10) C dX1_price_14 16 rfl (by decide) ?_
        refine x_icmpgeN C dX1_price_16 19 67 rfl (by decide) (by omega) (by omega) (fun _ => ?_) (fun h16 => absurd h16 (by omega))
        refine x_iload C dX1_price_67 69 rfl rfl ?_
        refine x_ifne C dX1_price_69 72 93 rfl (by decide) (fun h69 => ?_) (fun h69 => ?_)
        · refine x_ldc2 C dX1_price_93 96 rfl q553 ?_
          refine x_iload C dX1_price_96 98 rfl rfl ?_
          refine x_i2l C dX1_price_98 99 rfl (nL_i2l (by omega)) ?_
          refine x_lmul C dX1_price_99 100 rfl (nL_mul _ _) ?_
          refine x_aloadr_n C dX1_price_100 101 rfl rfl ?_
          refine x_getr C fl_X1_187 (Or.inr ⟨_, rfl⟩) dX1_price_101 104 rfl (ct_T hR ht) (ct_rooms hR ht) ?_
          refine x_iload_n C dX1_price_104 105 rfl rfl ?_
          refine x_aaldr (t := 6) C dX1_price_105 106 rfl (ct_roomsA hR ht) (by decide) (ct_roomsN hR ht) rfl (by omega) (by decide) (cm_elt hR ht hr) ?_
          refine x_geti C fl_X1_235 (Or.inl rfl) dX1_price_106 109 rfl (cm_T hR ht hr) ((cm_price hR ht hr).trans (hpe h1)) ?_
          refine x_i2l C dX1_price_109 110 rfl (nL_i2l (by omega)) ?_
          refine x_ladd C dX1_price_110 111 rfl (nL_add _ _) ?_
          exact x_lret C dX1_price_111 (Nat.le_refl _) (Nat.le_refl _) ⟨by unfold cpN; rw [e]; first | rw [if_pos h69] | rw [if_neg h69], rfl, rfl, rfl⟩
        · refine x_ldc2 C dX1_price_72 75 rfl q552 ?_
          refine x_aloadr_n C dX1_price_75 76 rfl rfl ?_
          refine x_getr C fl_X1_187 (Or.inr ⟨_, rfl⟩) dX1_price_76 79 rfl (ct_T hR ht) (ct_rooms hR ht) ?_
          refine x_iload_n C dX1_price_79 80 rfl rfl ?_
          refine x_aaldr (t := 6) C dX1_price_80 81 rfl (ct_roomsA hR ht) (by decide) (ct_roomsN hR ht) rfl (by omega) (by decide) (cm_elt hR ht hr) ?_
          refine x_geti C fl_X1_235 (Or.inl rfl) dX1_price_81 84 rfl (cm_T hR ht hr) ((cm_price hR ht hr).trans (hpe h1)) ?_
          refine x_i2l C dX1_price_84 85 rfl (nL_i2l (by omega)) ?_
          refine x_lmul C dX1_price_85 86 rfl (nL_mul _ _) ?_
          refine x_iload C dX1_price_86 88 rfl rfl ?_
          refine x_i2l C dX1_price_88 89 rfl (nL_i2l (by omega)) ?_
          refine x_ladd C dX1_price_89 90 rfl (nL_add _ _) ?_
          refine x_goto C dX1_price_90 111 (by decide) ?_
          exact x_lret C dX1_price_111 (Nat.le_refl _) (Nat.le_refl _) ⟨by unfold cpN; rw [e]; first | rw [if_pos h69] | rw [if_neg h69], rfl, rfl, rfl⟩
      | succ j ih12 =>
        intro p c e12 h_c
        refine x_iload C dX1_price_12 14 rfl rfl ?_
        refine x_bip (j := 10) C dX1_price_14 16 rfl (by decide) ?_
        refine x_icmpgeN C dX1_price_16 19 67 rfl (by decide) (by omega) (by omega) (fun h16 => absurd h16 (by omega)) (fun _ => ?_)
        refine x_iload C dX1_price_19 21 rfl rfl ?_
        refine x_iload_n C dX1_price_21 22 rfl rfl ?_
        refine x_iload C dX1_price_22 24 rfl rfl ?_
        refine x_ishr C dX1_price_24 25 rfl (nI_shrp _ _ (by omega) (by omega)) ?_
        refine x_ic (j := 1) C dX1_price_25 26 rfl ?_
        refine x_iand C dX1_price_26 27 rfl (nI_bit _ _) ?_
        refine x_ic (j := 1) C dX1_price_27 28 rfl ?_
        refine x_icmpneN C dX1_price_28 31 57 rfl (by decide) (by have := bit_lt q p; omega) (by have := bit_lt q p; omega) (fun h28 => ?_) (fun h28 => ?_)
        · have e28 : q.testBit p = false := by { rw [← bit_0]; have := bit_lt q p; omega }
          have ev : mvP T t (nI r) q p = false := by simp [mvP, e28]
          refine x_ic (j := 0) C dX1_price_57 58 rfl ?_
          refine x_iadd C dX1_price_58 59 rfl (nI_add _ _) ?_
          refine x_istore C dX1_price_59 61 rfl [_, _, _, _, _, _, _] (by decide) rfl rfl ?_
          refine x_iinc C dX1_price_61 64 rfl [_, _, _, _, _, _, _] (nI_inc _) (by decide) rfl rfl rfl ?_
          refine x_goto C dX1_price_64 12 (by decide) ?_
          exact (ih12 (p + 1) _ (by omega) (by simp [cnt, ev, h_c]))
        · have e28 := (bit_1 _ _).mp h28
          refine x_aloadr_n C dX1_price_31 32 rfl rfl ?_
          refine x_getr C fl_X1_148 (Or.inr ⟨_, rfl⟩) dX1_price_32 35 rfl (ct_T hR ht) (ct_list hR ht) ?_
          refine x_iload C dX1_price_35 37 rfl rfl ?_
          refine x_iald C dX1_price_37 38 rfl (ct_listA hR ht) (ct_listN hR ht) rfl (by omega) (by decide) (ct_listI hR ht _ (by omega)) ?_
          refine x_icm C dX1_price_38 39 rfl ?_
          refine x_icmpeq C dX1_price_39 42 57 rfl (by decide) (fun h39 => ?_) (fun h39 => ?_)
          · have ev : mvP T t (nI r) q p = false := by simp [mvP, h39]
            refine x_ic (j := 0) C dX1_price_57 58 rfl ?_
            refine x_iadd C dX1_price_58 59 rfl (nI_add _ _) ?_
            refine x_istore C dX1_price_59 61 rfl [_, _, _, _, _, _, _] (by decide) rfl rfl ?_
            refine x_iinc C dX1_price_61 64 rfl [_, _, _, _, _, _, _] (nI_inc _) (by decide) rfl rfl rfl ?_
            refine x_goto C dX1_price_64 12 (by decide) ?_
            exact (ih12 (p + 1) _ (by omega) (by simp [cnt, ev, h_c]))
          · refine x_aloadr_n C dX1_price_42 43 rfl rfl ?_
            refine x_getr C fl_X1_148 (Or.inr ⟨_, rfl⟩) dX1_price_43 46 rfl (ct_T hR ht) (ct_list hR ht) ?_
            refine x_iload C dX1_price_46 48 rfl rfl ?_
            refine x_iald C dX1_price_48 49 rfl (ct_listA hR ht) (ct_listN hR ht) rfl (by omega) (by decide) (ct_listI hR ht _ (by omega)) ?_
            refine x_iload_n C dX1_price_49 50 rfl rfl ?_
            refine x_icmpeq C dX1_price_50 53 57 rfl (by decide) (fun h50 => ?_) (fun h50 => ?_)
            · have ev : mvP T t (nI r) q p = false := by simp [mvP, h50]
              refine x_ic (j := 0) C dX1_price_57 58 rfl ?_
              refine x_iadd C dX1_price_58 59 rfl (nI_add _ _) ?_
              refine x_istore C dX1_price_59 61 rfl [_, _, _, _, _, _, _] (by decide) rfl rfl ?_
              refine x_iinc C dX1_price_61 64 rfl [_, _, _, _, _, _, _] (nI_inc _) (by decide) rfl rfl rfl ?_
              refine x_goto C dX1_price_64 12 (by decide) ?_
              exact (ih12 (p + 1) _ (by omega) (by simp [cnt, ev, h_c]))
            · have ev : mvP T t (nI r) q p = true := by simp [mvP, e28, h39, h50]
              refine x_ic (j := 1) C dX1_price_53 54 rfl ?_
              refine x_goto C dX1_price_54 58 (by decide) ?_
              refine x_iadd C dX1_price_58 59 rfl (nI_add _ _) ?_
              refine x_istore C dX1_price_59 61 rfl [_, _, _, _, _, _, _] (by decide) rfl rfl ?_
              refine x_iinc C dX1_price_61 64 rfl [_, _, _, _, _, _, _] (nI_inc _) (by decide) rfl rfl rfl ?_
              refine x_goto C dX1_price_64 12 (by decide) ?_
              exact (ih12 (p + 1) _ (by omega) (by simp [cnt, ev, h_c]))
    exact hloop12 10 0 _ (Nat.zero_add _) rfl
  · skip
    refine x_lc (v := 0) C dX1_price_4 5 rfl rfl ?_
    exact x_lret C dX1_price_5 (Nat.le_refl _) (Nat.le_refl _) (show Qe _ S I J _ _ _ _ by unfold cpN prN mvN; rw [if_pos h1, if_pos h1]; exact ⟨by split <;> rfl, rfl, rfl, rfl⟩)
end Co27
