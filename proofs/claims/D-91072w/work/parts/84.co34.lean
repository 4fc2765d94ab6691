/-! the component: a rule is found -/
theorem fnd_keep {kd : Int32} {σ : Nat → Int32} : ∀ (L : List Rul) (r : Int32), ¬ r = -1 → L.foldl (fndS kd σ) r = r
  | [], _, _ => rfl
  | q :: L, r, h => by
    rw [List.foldl_cons, show fndS kd σ r q = r from by unfold fndS; rw [if_neg (fun z => h z.2.2)]]
    exact fnd_keep L r h
theorem clip_m1 (v : Int32) : ¬ clip v = -1 := by
  unfold clip
  split
  · decide
  · split
    · decide
    · rename_i h _
      intro e
      exact h (by rw [e]; decide)
theorem clip_mm (v : Int32) : (if nI 0 < (if v < nI 100 then v else nI 100) then (if v < nI 100 then v else nI 100) else nI 0) = clip v := by
  unfold clip
  by_cases h1 : v < 0
  · have h2 : v < nI 100 := Int32.lt_trans h1 (by decide)
    rw [if_pos h2, if_pos h1, if_neg (show ¬ nI 0 < v from fun q => Int32.lt_irrefl (Int32.lt_trans h1 q))]
  · rw [if_neg h1]
    by_cases h2 : v < nI 100
    · rw [if_pos h2, if_neg (fun q => Int32.lt_irrefl (Int32.lt_trans h2 q))]
      by_cases h3 : nI 0 < v
      · rw [if_pos h3]
      · rw [if_neg h3]
        exact Int32.le_antisymm (Int32.not_lt.mp h1) (Int32.not_lt.mp h3)
    · rw [if_neg h2, if_pos (by decide)]
      by_cases h3 : nI 100 < v
      · rw [if_pos h3]
      · rw [if_neg h3]
        exact Int32.le_antisymm (Int32.not_lt.mp h2) (Int32.not_lt.mp h3)
section
variable {kd : Int32} {σ : Nat → Int32} {L : List Rul}
theorem take_s {k : Nat} {q : Rul} (h : L[k]? = some q) : L.take (k + 1) = L.take k ++ [q] := by
  rw [List.take_add_one, h]
  rfl
theorem fnd_skip {k : Nat} {q : Rul} (h : L[k]? = some q) (h0 : fnd kd σ (L.take k) = -1) (hn : ¬ (nI q.1 = kd ∧ ruOk σ q = true)) : fnd kd σ (L.take (k + 1)) = -1 := by
  rw [take_s h, fnd_app, h0]
  unfold fndS
  rw [if_neg (fun z => hn ⟨z.1, z.2.1⟩)]
theorem fnd_hit {k : Nat} {q : Rul} (h : L[k]? = some q) (h0 : fnd kd σ (L.take k) = -1) (hn : nI q.1 = kd ∧ ruOk σ q = true) : tol L kd σ = clip (q.2.1 σ) := by
  have h1 : fnd kd σ (L.take (k + 1)) = clip (q.2.1 σ) := by
    rw [take_s h, fnd_app, h0]
    unfold fndS
    rw [if_pos ⟨hn.1, hn.2, rfl⟩]
  have h2 : fnd kd σ L = clip (q.2.1 σ) := by
    have : L = L.take (k + 1) ++ L.drop (k + 1) := (List.take_append_drop _ _).symm
    rw [this]
    unfold fnd
    rw [List.foldl_append]
    show (L.drop (k + 1)).foldl (fndS kd σ) (fnd kd σ (L.take (k + 1))) = _
    rw [h1]
    exact fnd_keep _ _ (clip_m1 _)
  unfold tol
  rw [h2, if_neg (clip_m1 _)]
theorem fnd_none (h0 : fnd kd σ (L.take L.length) = -1) : tol L kd σ = nI 0 := by
  rw [List.take_length] at h0
  unfold tol
  rw [if_pos h0]
end
section Co34
variable {w : Wd} {l : Launch} {K : Ly} {S : Sh} {I T : Mi} {J : Ml}
theorem kJ8_checkIndex {i n : Nat} (h : i < n) (hn : n < 2 ^ 31) : Ct w l yJ8_checkIndex cJ8_checkIndex 3 (some .int) 1 0 0 [.int (nI i), .int (nI n), .null] S I J (Qe (some (.int (nI i))) S I J) := by
  refine Ct.of [some _, some _, some _] rfl (Nat.le_of_ble_eq_true rfl) (by decide) ?_
  intro κ hκ C
  subst hκ
  refine x_iload_n C dJ8_checkIndex_0 1 rfl rfl ?_
  refine x_iflt C dJ8_checkIndex_1 4 9 rfl (by decide) (fun h1 => absurd h1 (nI_nn (by omega))) (fun _ => ?_)
  refine x_iload_n C dJ8_checkIndex_4 5 rfl rfl ?_
  refine x_iload_n C dJ8_checkIndex_5 6 rfl rfl ?_
  refine x_icmpltN C dJ8_checkIndex_6 9 16 rfl (by decide) (by omega) (by omega) (fun _ => ?_) (fun h6 => absurd h6 (by omega))
  refine x_iload_n C dJ8_checkIndex_16 17 rfl rfl ?_
  exact x_iret C dJ8_checkIndex_17 (Nat.le_refl _) (Nat.le_refl _) ⟨rfl, rfl, rfl, rfl⟩
theorem kJ15_checkIndex {i n : Nat} (h : i < n) (hn : n < 2 ^ 31) : Ct w l yJ15_checkIndex cJ15_checkIndex 2 (some .int) 2 0 0 [.int (nI i), .int (nI n)] S I J (Qe (some (.int (nI i))) S I J) := by
  refine Ct.of [some _, some _] rfl (Nat.le_of_ble_eq_true rfl) (by decide) ?_
  intro κ hκ C
  subst hκ
  refine x_iload_n C dJ15_checkIndex_0 1 rfl rfl ?_
  refine x_iload_n C dJ15_checkIndex_1 2 rfl rfl ?_
  refine x_null C dJ15_checkIndex_2 3 rfl ?_
  refine x_callS C lk_J15_105 dJ15_checkIndex_3 6 rfl [_, _, _] [] rfl rfl (Nat.le_of_ble_eq_true rfl) (by decide) (Nat.le_refl _) (Nat.le_refl _) (kJ8_checkIndex h hn) ?_
  rintro _ _ _ _ ⟨rfl, rfl, rfl, rfl⟩
  exact x_iret C dJ15_checkIndex_6 (Nat.le_refl _) (Nat.le_refl _) ⟨rfl, rfl, rfl, rfl⟩
theorem kJ2_elementData {a e i N b : Nat} (hT : S.1 a = 14) (he : S.2.2.1 a 1 = some e) (h107 : S.1 e = 107) (hN : S.2.1 e = N) (hi : i < N) (hN2 : N < 2147483648) (hb : S.2.2.1 e i = some b) : Ct w l yJ2_elementData cJ2_elementData 2 (some (.object "java/lang/Object")) 1 0 0 [.ref a, .int (nI i)] S I J (Qe (some (.ref b)) S I J) := by
  refine Ct.of [some _, some _] rfl (Nat.le_of_ble_eq_true rfl) (by decide) ?_
  intro κ hκ C
  subst hκ
  refine x_aloadr_n C dJ2_elementData_0 1 rfl rfl ?_
  refine x_getr C fl_J2_9 (Or.inr ⟨_, rfl⟩) dJ2_elementData_1 4 rfl hT he ?_
  refine x_iload_n C dJ2_elementData_4 5 rfl rfl ?_
  refine x_aaldr (t := 7) C dJ2_elementData_5 6 rfl h107 (by decide) hN rfl hi hN2 hb ?_
  exact x_aret (r := some _) C (Or.inl ⟨_, rfl⟩) dJ2_elementData_6 (Nat.le_refl _) (Nat.le_refl _) ⟨rfl, rfl, rfl, rfl⟩
theorem kJ2_get {a k : Nat} {L : List Rul} {q : Rul} (hL : LiR S I a L) (hk : L[k]? = some q) : Ct w l yJ2_get cJ2_get 2 (some (.object "java/lang/Object")) 3 0 0 [.ref a, .int (nI k)] S I J (fun r S' I' J' => ∃ b, r = some (.ref b) ∧ RuR S I b q ∧ S = S' ∧ I = I' ∧ J = J') := by
  obtain ⟨h1, h2, h3, e, N, h4, h5, h6, h7, h8, h9⟩ := hL
  obtain ⟨b, g1, g2⟩ := h9 k q hk
  have hlt : k < L.length := (List.getElem?_eq_some_iff.mp hk).1
  refine Ct.of [some _, some _] rfl (Nat.le_of_ble_eq_true rfl) (by decide) ?_
  intro κ hκ C
  subst hκ
  refine x_iload_n C dJ2_get_0 1 rfl rfl ?_
  refine x_aloadr_n C dJ2_get_1 2 rfl rfl ?_
  refine x_geti C fl_J2_48 (Or.inl rfl) dJ2_get_2 5 rfl h1 h2 ?_
  refine x_callS C lk_J2_118 dJ2_get_5 8 rfl [_, _] [] rfl rfl (Nat.le_of_ble_eq_true rfl) (by decide) (Nat.le_refl _) (Nat.le_refl _) (kJ15_checkIndex hlt (by omega)) ?_
  rintro _ _ _ _ ⟨rfl, rfl, rfl, rfl⟩
  refine x_pop C dJ2_get_8 9 rfl rfl ?_
  refine x_aloadr_n C dJ2_get_9 10 rfl rfl ?_
  refine x_iload_n C dJ2_get_10 11 rfl rfl ?_
  refine x_callV C lk_J2_123 dJ2_get_11 14 rfl [_] [] rfl rfl h1 (Nat.le_of_ble_eq_true rfl) (by decide) (Nat.le_refl _) (Nat.le_refl _) (kJ2_elementData h1 h4 h5 h6 (by omega) h8 g1) ?_
  rintro _ _ _ _ ⟨rfl, rfl, rfl, rfl⟩
  exact x_aret (r := some _) C (Or.inl ⟨_, rfl⟩) dJ2_get_14 (Nat.le_refl _) (Nat.le_refl _) ⟨b, rfl, g2, rfl, rfl, rfl⟩
theorem kX1_worthOf (hR : CoR K S I T) (hI : Tok T) {t : Nat} (ht : t < tn T) {kd : Int32} : Ct w l yX1_worthOf cX1_worthOf 5 (some .int) 503 0 0 [.ref 0, .ref (ta K t), .int kd] S I J (Qe (some (.int (tol (rulesOf T t) kd (sg8 I)))) S I J) := by
  have hli := (cr_ct hR ht).1
  have hS2 : S.1 8 = 2 := coA_state (cr_S hR)
  refine Ct.of [some _, some _, some _, none, none] rfl (Nat.le_of_ble_eq_true rfl) (by decide) ?_
  intro κ hκ C
  subst hκ
  have hC := cr_S hR
  have hp10 := tk_p2 hI
  have ht6 := tk_t2 hI
  have hg30 := tk_g2 hI
  have hc30 := tk_c2 hI
  have hn500 := tk_n2 hI
  have hlen := hli.2.2.1
  have hl : ∀ (j k : Nat), k + j = (rulesOf T t).length → fnd kd (sg8 I) ((rulesOf T t).take k) = -1 → XX w κ (Zr w κ (Qe (some (.int (tol (rulesOf T t) kd (sg8 I)))) S I J)) 0 0 2 [some (.ref 0), some (.ref (ta K t)), some (.int kd), some (.int (nI k)), none] [] S I J := by
    intro j
    induction j with
    | zero =>
      intro k e h0
      have e : k = (rulesOf T t).length := e
      subst e
      refine x_iload_n C dX1_worthOf_2 3 rfl rfl ?_
      refine x_aloadr_n C dX1_worthOf_3 4 rfl rfl ?_
      refine x_getr C fl_X1_291 (Or.inl ⟨_, rfl⟩) dX1_worthOf_4 7 rfl (ct_T hR ht) (ct_contract hR ht) ?_
      refine x_callV C lk_X1_300 dX1_worthOf_7 10 rfl [] [_] rfl rfl hli.1 (Nat.le_of_ble_eq_true rfl) (by omega) (Nat.le_refl _) (Nat.le_refl _) (kJ2_size hli) ?_
      rintro _ _ _ _ ⟨rfl, rfl, rfl, rfl⟩
      refine x_icmpgeN C dX1_worthOf_10 13 89 rfl (by decide) (by omega) (by omega) (fun _ => ?_) (fun h10 => absurd h10 (by omega))
      refine x_ic (j := 0) C dX1_worthOf_89 90 rfl ?_
      exact x_iret C dX1_worthOf_90 (Nat.le_refl _) (Nat.le_refl _) (Qe_of (fnd_none h0))
    | succ j ih =>
      intro k e h0
      have hlt : k < (rulesOf T t).length := by omega
      have hk : (rulesOf T t)[k]? = some ((rulesOf T t)[k]'hlt) := List.getElem?_eq_getElem hlt
      generalize (rulesOf T t)[k]'hlt = q at hk
      refine x_iload_n C dX1_worthOf_2 3 rfl rfl ?_
      refine x_aloadr_n C dX1_worthOf_3 4 rfl rfl ?_
      refine x_getr C fl_X1_291 (Or.inl ⟨_, rfl⟩) dX1_worthOf_4 7 rfl (ct_T hR ht) (ct_contract hR ht) ?_
      refine x_callV C lk_X1_300 dX1_worthOf_7 10 rfl [] [_] rfl rfl hli.1 (Nat.le_of_ble_eq_true rfl) (by omega) (Nat.le_refl _) (Nat.le_refl _) (kJ2_size hli) ?_
      rintro _ _ _ _ ⟨rfl, rfl, rfl, rfl⟩
      refine x_icmpgeN C dX1_worthOf_10 13 89 rfl (by decide) (by omega) (by omega) (fun h10 => absurd h10 (by omega)) (fun _ => ?_)
      refine x_aloadr_n C dX1_worthOf_13 14 rfl rfl ?_
      refine x_getr C fl_X1_291 (Or.inl ⟨_, rfl⟩) dX1_worthOf_14 17 rfl (ct_T hR ht) (ct_contract hR ht) ?_
      refine x_iload_n C dX1_worthOf_17 18 rfl rfl ?_
      refine x_callV C lk_X1_305 dX1_worthOf_18 21 rfl [_] [] rfl rfl hli.1 (Nat.le_of_ble_eq_true rfl) (by omega) (Nat.le_refl _) (Nat.le_refl _) (kJ2_get hli hk) ?_
      rintro _ _ _ _ ⟨b, rfl, hb, rfl, rfl, rfl⟩
      refine x_cast C q1041 dX1_worthOf_21 24 rfl hb.1 (by decide) ⟨_, rfl, rfl⟩ ?_
      refine x_astorer C dX1_worthOf_24 26 rfl [_, _, _, _, _] (by decide) rfl rfl ?_
      refine x_aloadr C dX1_worthOf_26 28 rfl rfl ?_
      refine x_geti C fl_X1_311 (Or.inl rfl) dX1_worthOf_28 31 rfl hb.1 hb.2.1 ?_
      refine x_iload_n C dX1_worthOf_31 32 rfl rfl ?_
      refine x_icmpne C dX1_worthOf_32 35 83 rfl (by decide) (fun h32 => ?_) (fun h32 => ?_)
      · have hnx := fnd_skip hk h0 (fun z => h32 z.1)
        refine x_iinc C dX1_worthOf_83 86 rfl [_, _, _, _, _] (nI_inc _) (by decide) rfl rfl rfl ?_
        refine x_goto C dX1_worthOf_86 2 (by decide) ?_
        refine x_ls [some _, some _, some _, some _, none] ⟨rfl, rfl, rfl, rfl, trivial⟩ ?_
        exact ih (k + 1) (by omega) hnx
      · obtain ⟨bt, ht1, ht2⟩ := hb.2.2.2.1
        have ev1 := ev_all (w := w) (l := κ.2.1) (J := J) hS2 500 bt _ ht2
        have h61 : ruOk (sg8 I) q = true → XX w κ (Zr w κ (Qe (some (.int (tol (rulesOf T t) kd (sg8 I)))) S I J)) 0 0 61 [some (.ref 0), some (.ref (ta K t)), some (.int kd), some (.int (nI k)), some (.ref b)] [] S I J := by
          intro hok
          refine x_ic (j := 0) C dX1_worthOf_61 62 rfl ?_
          refine x_bip (j := 100) C dX1_worthOf_62 64 rfl (by decide) ?_
          refine x_aloadr C dX1_worthOf_64 66 rfl rfl ?_
          refine x_getr C fl_X1_324 (Or.inl ⟨_, rfl⟩) dX1_worthOf_66 69 rfl hb.1 ht1 ?_
          refine x_aloadr_n C dX1_worthOf_69 70 rfl rfl ?_
          refine x_getr C fl_X1_48 (Or.inl ⟨_, rfl⟩) dX1_worthOf_70 73 rfl hC.1 (coR_state hC) ?_
          refine x_ev C mu_X1_318_8 mu_X1_318_9 mu_X1_318_10 mu_X1_318_11 mu_X1_318_12 dX1_worthOf_73 76 rfl (Nat.le_of_ble_eq_true rfl) ev1 (by omega) (Nat.le_refl _) (Nat.le_refl _) ?_
          refine x_mmin2 C q1069 q687 q688 dX1_worthOf_76 79 rfl (Nat.le_of_ble_eq_true rfl) (by omega) (Nat.zero_le _) (Nat.zero_le _) ?_
          refine x_mmax2 C q1070 q684 q685 dX1_worthOf_79 82 rfl (Nat.le_of_ble_eq_true rfl) (by omega) (Nat.zero_le _) (Nat.zero_le _) ?_
          exact x_iret C dX1_worthOf_82 (Nat.le_refl _) (Nat.le_refl _) (Qe_of (by rw [fnd_hit hk h0 ⟨h32, hok⟩, ← clip_mm]))
        have hw := hb.2.2.2.2
        cases hq : q.2.2 with
        | none =>
          rw [hq] at hw
          refine x_aloadr C dX1_worthOf_35 37 rfl rfl ?_
          refine x_getq C fl_X1_314 (Or.inl ⟨_, rfl⟩) dX1_worthOf_37 40 rfl hb.1 hw ?_
          refine x_ifnull C dX1_worthOf_40 43 61 rfl (by decide) (fun _ => ?_) (fun b40 h40 => absurd h40 (by simp))
          exact h61 (by unfold ruOk; rw [hq])
        | some g =>
          rw [hq] at hw
          obtain ⟨bw, hw1, hw2⟩ := hw
          have ev2 := ev_all (w := w) (l := κ.2.1) (J := J) hS2 500 bw _ hw2
          refine x_aloadr C dX1_worthOf_35 37 rfl rfl ?_
          refine x_getq C fl_X1_314 (Or.inl ⟨_, rfl⟩) dX1_worthOf_37 40 rfl hb.1 hw1 ?_
          refine x_ifnull C dX1_worthOf_40 43 61 rfl (by decide) (fun h40 => absurd h40 (by simp)) (fun b40 _ => ?_)
          refine x_aloadr C dX1_worthOf_43 45 rfl rfl ?_
          refine x_getr C fl_X1_314 (Or.inl ⟨_, rfl⟩) dX1_worthOf_45 48 rfl hb.1 hw1 ?_
          refine x_aloadr_n C dX1_worthOf_48 49 rfl rfl ?_
          refine x_getr C fl_X1_48 (Or.inl ⟨_, rfl⟩) dX1_worthOf_49 52 rfl hC.1 (coR_state hC) ?_
          refine x_ev C mu_X1_318_8 mu_X1_318_9 mu_X1_318_10 mu_X1_318_11 mu_X1_318_12 dX1_worthOf_52 55 rfl (Nat.le_of_ble_eq_true rfl) ev2 (by omega) (Nat.le_refl _) (Nat.le_refl _) ?_
          refine x_ifne C dX1_worthOf_55 58 61 rfl (by decide) (fun h55 => ?_) (fun h55 => ?_)
          · exact h61 (by unfold ruOk; rw [hq]; simp [h55])
          · have hnx := fnd_skip hk h0 (fun z => by have z2 := z.2; unfold ruOk at z2; rw [hq] at z2; simp [h55] at z2)
            refine x_goto C dX1_worthOf_58 83 (by decide) ?_
            refine x_iinc C dX1_worthOf_83 86 rfl [_, _, _, _, _] (nI_inc _) (by decide) rfl rfl rfl ?_
            refine x_goto C dX1_worthOf_86 2 (by decide) ?_
            refine x_ls [some _, some _, some _, some _, none] ⟨rfl, rfl, rfl, rfl, trivial⟩ ?_
            exact ih (k + 1) (by omega) hnx
  refine x_ic (j := 0) C dX1_worthOf_0 1 rfl ?_
  refine x_istore_n C dX1_worthOf_1 2 rfl [_, _, _, _, _] (by decide) rfl rfl ?_
  exact hl _ 0 (Nat.zero_add _) rfl
end Co34
