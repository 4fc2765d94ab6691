/-! the component: expressions are worked out -/
/-- the state's numbers -/
def sg8 (I : Mi) : Nat → Int32 := fun k => match k with
  | 0 => I 8 0
  | 1 => I 8 1
  | 2 => I 8 2
  | 3 => I 8 3
  | _ => I 8 4
section Co32
variable {w : Wd} {l : Launch} {S : Sh} {I : Mi} {J : Ml}
theorem kX10_of {a b : Nat} (hT : S.1 a = 8) : Ct w l yX10_of cX10_of 2 (some .int) 1 0 0 [.ref a, .ref b] S I J (Qe (some (.int (I a 0))) S I J) := by
  refine Ct.of [some _, some _] rfl (Nat.le_of_ble_eq_true rfl) (by decide) ?_
  intro κ hκ C
  subst hκ
  refine x_aloadr_n C dX10_of_0 1 rfl rfl ?_
  refine x_geti C fl_X10_7 (Or.inl rfl) dX10_of_1 4 rfl hT rfl ?_
  exact x_iret C dX10_of_4 (Nat.le_refl _) (Nat.le_refl _) ⟨rfl, rfl, rfl, rfl⟩
theorem kX11_of {a k : Nat} (hT : S.1 a = 9) (hS2 : S.1 8 = 2) (hk : k < 5) (hv : I a 0 = nI k) : Ct w l yX11_of cX11_of 2 (some .int) 1 0 0 [.ref a, .ref 8] S I J (Qe (some (.int (sg8 I k))) S I J) := by
  refine Ct.of [some _, some _] rfl (Nat.le_of_ble_eq_true rfl) (by decide) ?_
  intro κ hκ C
  subst hκ
  refine x_aloadr_n C dX11_of_0 1 rfl rfl ?_
  refine x_geti C fl_X11_7 (Or.inl rfl) dX11_of_1 4 rfl hT hv ?_
  refine x_sw4 C dX11_of_4 36 41 46 51 56 (by decide) (by decide) (fun hs4 => ?_) (fun hs4 => ?_) (fun hs4 => ?_) (fun hs4 => ?_) (fun hs4 => ?_)
  · refine x_aloadr_n C dX11_of_36 37 rfl rfl ?_
    refine x_geti C fl_X11_13 (Or.inl rfl) dX11_of_37 40 rfl hS2 rfl ?_
    exact x_iret C dX11_of_40 (Nat.le_refl _) (Nat.le_refl _) ⟨by have e := (nI_eq (by omega) (by decide)).mp hs4; subst e; rfl, rfl, rfl, rfl⟩
  · refine x_aloadr_n C dX11_of_41 42 rfl rfl ?_
    refine x_geti C fl_X11_18 (Or.inl rfl) dX11_of_42 45 rfl hS2 rfl ?_
    exact x_iret C dX11_of_45 (Nat.le_refl _) (Nat.le_refl _) ⟨by have e := (nI_eq (by omega) (by decide)).mp hs4; subst e; rfl, rfl, rfl, rfl⟩
  · refine x_aloadr_n C dX11_of_46 47 rfl rfl ?_
    refine x_geti C fl_X11_21 (Or.inl rfl) dX11_of_47 50 rfl hS2 rfl ?_
    exact x_iret C dX11_of_50 (Nat.le_refl _) (Nat.le_refl _) ⟨by have e := (nI_eq (by omega) (by decide)).mp hs4; subst e; rfl, rfl, rfl, rfl⟩
  · refine x_aloadr_n C dX11_of_51 52 rfl rfl ?_
    refine x_geti C fl_X11_24 (Or.inl rfl) dX11_of_52 55 rfl hS2 rfl ?_
    exact x_iret C dX11_of_55 (Nat.le_refl _) (Nat.le_refl _) ⟨by have e := (nI_eq (by omega) (by decide)).mp hs4; subst e; rfl, rfl, rfl, rfl⟩
  · refine x_aloadr_n C dX11_of_56 57 rfl rfl ?_
    refine x_geti C fl_X11_27 (Or.inl rfl) dX11_of_57 60 rfl hS2 rfl ?_
    exact x_iret C dX11_of_60 (Nat.le_refl _) (Nat.le_refl _) ⟨by have e : k = 4 := by { rcases (show k = 0 ∨ k = 1 ∨ k = 2 ∨ k = 3 ∨ k = 4 by omega) with q | q | q | q | q <;> subst q <;> simp at hs4 ⊢ }; subst e; rfl, rfl, rfl, rfl⟩
theorem kX13_by {a : Nat} {x y : Int32} {m : Bool} (hT : S.1 a = 10) (hv : I a 2 = bz m) : Ct w l yX13_by cX13_by 3 (some .int) 1 0 0 [.ref a, .int x, .int y] S I J (Qe (some (.int (if m = true then x + y else x - y))) S I J) := by
  refine Ct.of [some _, some _, some _] rfl (Nat.le_of_ble_eq_true rfl) (by decide) ?_
  intro κ hκ C
  subst hκ
  refine x_aloadr_n C dX13_by_0 1 rfl rfl ?_
  refine x_geti C fl_X13_7 (Or.inr (Or.inl rfl)) dX13_by_1 4 rfl hT hv ?_
  refine x_ifeqZ C dX13_by_4 7 13 rfl (by decide) (fun h4 => ?_) (fun h4 => ?_)
  · refine x_iload_n C dX13_by_13 14 rfl rfl ?_
    refine x_iload_n C dX13_by_14 15 rfl rfl ?_
    refine x_isub C dX13_by_15 16 rfl rfl ?_
    exact x_iret C dX13_by_16 (Nat.le_refl _) (Nat.le_refl _) (Qe_of (by simp [h4]))
  · refine x_iload_n C dX13_by_7 8 rfl rfl ?_
    refine x_iload_n C dX13_by_8 9 rfl rfl ?_
    refine x_iadd C dX13_by_9 10 rfl rfl ?_
    refine x_goto C dX13_by_10 16 (by decide) ?_
    exact x_iret C dX13_by_16 (Nat.le_refl _) (Nat.le_refl _) (Qe_of (by simp [h4]))
theorem kX14_by {a : Nat} {x y : Int32} {m : Bool} (hT : S.1 a = 11) (hv : I a 2 = bz m) : Ct w l yX14_by cX14_by 3 (some .int) 1 0 0 [.ref a, .int x, .int y] S I J (Qe (some (.int (if m = true then (if x < y then nI 1 else nI 0) else (if x = y then nI 1 else nI 0)))) S I J) := by
  refine Ct.of [some _, some _, some _] rfl (Nat.le_of_ble_eq_true rfl) (by decide) ?_
  intro κ hκ C
  subst hκ
  refine x_aloadr_n C dX14_by_0 1 rfl rfl ?_
  refine x_geti C fl_X14_7 (Or.inr (Or.inl rfl)) dX14_by_1 4 rfl hT hv ?_
  refine x_ifeqZ C dX14_by_4 7 15 rfl (by decide) (fun h4 => ?_) (fun h4 => ?_)
  · refine x_iload_n C dX14_by_15 16 rfl rfl ?_
    refine x_iload_n C dX14_by_16 17 rfl rfl ?_
    refine x_icmpne C dX14_by_17 20 24 rfl (by decide) (fun h17 => ?_) (fun h17 => ?_)
    · refine x_ic (j := 0) C dX14_by_24 25 rfl ?_
      exact x_iret C dX14_by_25 (Nat.le_refl _) (Nat.le_refl _) (Qe_of (by rw [if_neg (by rw [h4]; decide), if_neg h17]))
    · refine x_ic (j := 1) C dX14_by_20 21 rfl ?_
      refine x_goto C dX14_by_21 25 (by decide) ?_
      exact x_iret C dX14_by_25 (Nat.le_refl _) (Nat.le_refl _) (Qe_of (by rw [if_neg (by rw [h4]; decide), if_pos h17]))
  · refine x_iload_n C dX14_by_7 8 rfl rfl ?_
    refine x_iload_n C dX14_by_8 9 rfl rfl ?_
    refine x_icmpge C dX14_by_9 12 24 rfl (by decide) (fun h9 => ?_) (fun h9 => ?_)
    · refine x_ic (j := 0) C dX14_by_24 25 rfl ?_
      exact x_iret C dX14_by_25 (Nat.le_refl _) (Nat.le_refl _) (Qe_of (by rw [if_pos h4, if_neg h9]))
    · refine x_goto C dX14_by_12 20 (by decide) ?_
      refine x_ic (j := 1) C dX14_by_20 21 rfl ?_
      refine x_goto C dX14_by_21 25 (by decide) ?_
      exact x_iret C dX14_by_25 (Nat.le_refl _) (Nat.le_refl _) (Qe_of (by rw [if_pos h4, if_pos h9]))
theorem kX15_by {a : Nat} {x y : Int32} : Ct w l yX15_by cX15_by 3 (some .int) 1 0 0 [.ref a, .int x, .int y] S I J (Qe (some (.int (if ¬ x = 0 ∧ ¬ y = 0 then nI 1 else nI 0))) S I J) := by
  refine Ct.of [some _, some _, some _] rfl (Nat.le_of_ble_eq_true rfl) (by decide) ?_
  intro κ hκ C
  subst hκ
  refine x_iload_n C dX15_by_0 1 rfl rfl ?_
  refine x_ifeq C dX15_by_1 4 12 rfl (by decide) (fun h1 => ?_) (fun h1 => ?_)
  · refine x_ic (j := 0) C dX15_by_12 13 rfl ?_
    exact x_iret C dX15_by_13 (Nat.le_refl _) (Nat.le_refl _) (Qe_of (by rw [if_neg (fun q => q.1 h1)]))
  · refine x_iload_n C dX15_by_4 5 rfl rfl ?_
    refine x_ifeq C dX15_by_5 8 12 rfl (by decide) (fun h5 => ?_) (fun h5 => ?_)
    · refine x_ic (j := 0) C dX15_by_12 13 rfl ?_
      exact x_iret C dX15_by_13 (Nat.le_refl _) (Nat.le_refl _) (Qe_of (by rw [if_neg (fun q => q.2 h5)]))
    · refine x_ic (j := 1) C dX15_by_8 9 rfl ?_
      refine x_goto C dX15_by_9 13 (by decide) ?_
      exact x_iret C dX15_by_13 (Nat.le_refl _) (Nat.le_refl _) (Qe_of (by rw [if_pos ⟨h1, h5⟩]))
/-- an expression that can be worked out -/
def EvA (w : Wd) (l : Launch) (S : Sh) (I : Mi) (J : Ml) (n a : Nat) (v : Int32) : Prop := ∃ d', d' ≤ n ∧
  ((S.1 a = 8 ∧ Ct w l yX10_of cX10_of 2 (some .int) d' 0 0 [.ref a, .ref 8] S I J (Qe (some (.int v)) S I J)) ∨ (S.1 a = 9 ∧ Ct w l yX11_of cX11_of 2 (some .int) d' 0 0 [.ref a, .ref 8] S I J (Qe (some (.int v)) S I J)) ∨
   ((S.1 a = 10 ∨ S.1 a = 11 ∨ S.1 a = 12) ∧ Ct w l yX12_of cX12_of 2 (some .int) d' 0 0 [.ref a, .ref 8] S I J (Qe (some (.int v)) S I J)))
end Co32
section
variable {w : Wd} {κ : Cx} {Z : State → Prop} {y : MethodName} {cc : ByteArray} {nL d mc ms : Nat} {rt : Option FieldType} {cs sl pc n : Nat} {L L' : List (Option Value)} {sk : List Value} {S : Sh} {I : Mi} {J : Ml}
theorem x_ev (C : Cok w y cc nL rt d mc ms κ) {idx a e : Nat} {v : Int32} {x : MethodName} (m8 : MU y.cls idx 8 x yX10_of cX10_of 2 (some .int) 1) (m9 : MU y.cls idx 9 x yX11_of cX11_of 2 (some .int) 1) (m10 : MU y.cls idx 10 x yX12_of cX12_of 2 (some .int) 1) (m11 : MU y.cls idx 11 x yX12_of cX12_of 2 (some .int) 1) (m12 : MU y.cls idx 12 x yX12_of cX12_of 2 (some .int) 1) (hd : decode cc pc = .ok (.invokevirtual idx, 3)) (n : Nat) (hn : pc + 3 = n) (hroom : (sk.map fun v => v.category).sum ≤ 8) (hE : EvA w κ.2.1 S I J e a v) (hdd : e + 1 ≤ d) (hc : cs ≤ mc) (hs : sl ≤ ms) (kk : XX w κ Z cs sl n L (.int v :: sk) S I J) : XX w κ Z cs sl pc L (.ref 8 :: .ref a :: sk) S I J := by
  obtain ⟨d', hd', h⟩ := hE
  rcases h with ⟨h1, h2⟩ | ⟨h1, h2⟩ | ⟨h1, h2⟩
  · refine x_callU C m8 hd n hn [_] sk rfl rfl h1 hroom (by omega) hc hs h2 ?_
    rintro _ _ _ _ ⟨rfl, rfl, rfl, rfl⟩
    exact kk
  · refine x_callU C m9 hd n hn [_] sk rfl rfl h1 hroom (by omega) hc hs h2 ?_
    rintro _ _ _ _ ⟨rfl, rfl, rfl, rfl⟩
    exact kk
  · rcases h1 with h1 | h1 | h1
    · refine x_callU C m10 hd n hn [_] sk rfl rfl h1 hroom (by omega) hc hs h2 ?_
      rintro _ _ _ _ ⟨rfl, rfl, rfl, rfl⟩
      exact kk
    · refine x_callU C m11 hd n hn [_] sk rfl rfl h1 hroom (by omega) hc hs h2 ?_
      rintro _ _ _ _ ⟨rfl, rfl, rfl, rfl⟩
      exact kk
    · refine x_callU C m12 hd n hn [_] sk rfl rfl h1 hroom (by omega) hc hs h2 ?_
      rintro _ _ _ _ ⟨rfl, rfl, rfl, rfl⟩
      exact kk
end
section Co33
variable {w : Wd} {l : Launch} {S : Sh} {I : Mi} {J : Ml}
theorem ev_all (hS2 : S.1 8 = 2) : ∀ (n a : Nat) (g : Den), ExR S I n a g → EvA w l S I J (n + 1) a (g (sg8 I)) := by
  intro n
  induction n with
  | zero => intro a g h; exact h.elim
  | succ n ih =>
    intro a g h
    rcases h with ⟨h1, h2⟩ | ⟨k, h1, h2, h3, h4⟩ | ⟨b, c, g1, g2, h1, h2, h3, h4, h5, h6⟩
    · refine ⟨1, by omega, Or.inl ⟨h1, ?_⟩⟩
      rw [h2]
      exact kX10_of h1
    · refine ⟨1, by omega, Or.inr (Or.inl ⟨h1, ?_⟩)⟩
      rw [h4]
      exact kX11_of h1 hS2 h3 h2
    · have e1 := ih b g1 h4
      have e2 := ih c g2 h5
      refine ⟨n + 1 + 1, by omega, Or.inr (Or.inr ⟨h1, ?_⟩)⟩
      rcases h1 with h1 | h1 | h1
      · obtain ⟨m, hm, hg⟩ := h6.1 h1
        have hg2 : g (sg8 I) = if m = true then g1 (sg8 I) + g2 (sg8 I) else g1 (sg8 I) - g2 (sg8 I) := by rw [hg]; split <;> rfl
        rw [hg2]
        refine Ct.of [some _, some _] rfl (Nat.le_of_ble_eq_true rfl) (by decide) ?_
        intro κ hκ C
        subst hκ
        refine x_aloadr_n C dX12_of_0 1 rfl rfl ?_
        refine x_aloadr_n C dX12_of_1 2 rfl rfl ?_
        refine x_getr C fl_X12_7_10 (Or.inl ⟨_, rfl⟩) dX12_of_2 5 rfl h1 h2 ?_
        refine x_aloadr_n C dX12_of_5 6 rfl rfl ?_
        refine x_ev C mu_X12_16_8 mu_X12_16_9 mu_X12_16_10 mu_X12_16_11 mu_X12_16_12 dX12_of_6 9 rfl (Nat.le_of_ble_eq_true rfl) e1 (by omega) (Nat.le_refl _) (Nat.le_refl _) ?_
        refine x_aloadr_n C dX12_of_9 10 rfl rfl ?_
        refine x_getr C fl_X12_13_10 (Or.inl ⟨_, rfl⟩) dX12_of_10 13 rfl h1 h3 ?_
        refine x_aloadr_n C dX12_of_13 14 rfl rfl ?_
        refine x_ev C mu_X12_16_8 mu_X12_16_9 mu_X12_16_10 mu_X12_16_11 mu_X12_16_12 dX12_of_14 17 rfl (Nat.le_of_ble_eq_true rfl) e2 (by omega) (Nat.le_refl _) (Nat.le_refl _) ?_
        refine x_callU C mu_X12_20_10 dX12_of_17 20 rfl [_, _] [] rfl rfl h1 (Nat.le_of_ble_eq_true rfl) (by omega) (Nat.le_refl _) (Nat.le_refl _) (kX13_by h1 hm) ?_
        rintro _ _ _ _ ⟨rfl, rfl, rfl, rfl⟩
        exact x_iret C dX12_of_20 (Nat.le_refl _) (Nat.le_refl _) ⟨rfl, rfl, rfl, rfl⟩
      · obtain ⟨m, hm, hg⟩ := h6.2.1 h1
        have hg2 : g (sg8 I) = if m = true then (if g1 (sg8 I) < g2 (sg8 I) then nI 1 else nI 0) else (if g1 (sg8 I) = g2 (sg8 I) then nI 1 else nI 0) := by rw [hg]; split <;> rfl
        rw [hg2]
        refine Ct.of [some _, some _] rfl (Nat.le_of_ble_eq_true rfl) (by decide) ?_
        intro κ hκ C
        subst hκ
        refine x_aloadr_n C dX12_of_0 1 rfl rfl ?_
        refine x_aloadr_n C dX12_of_1 2 rfl rfl ?_
        refine x_getr C fl_X12_7_11 (Or.inl ⟨_, rfl⟩) dX12_of_2 5 rfl h1 h2 ?_
        refine x_aloadr_n C dX12_of_5 6 rfl rfl ?_
        refine x_ev C mu_X12_16_8 mu_X12_16_9 mu_X12_16_10 mu_X12_16_11 mu_X12_16_12 dX12_of_6 9 rfl (Nat.le_of_ble_eq_true rfl) e1 (by omega) (Nat.le_refl _) (Nat.le_refl _) ?_
        refine x_aloadr_n C dX12_of_9 10 rfl rfl ?_
        refine x_getr C fl_X12_13_11 (Or.inl ⟨_, rfl⟩) dX12_of_10 13 rfl h1 h3 ?_
        refine x_aloadr_n C dX12_of_13 14 rfl rfl ?_
        refine x_ev C mu_X12_16_8 mu_X12_16_9 mu_X12_16_10 mu_X12_16_11 mu_X12_16_12 dX12_of_14 17 rfl (Nat.le_of_ble_eq_true rfl) e2 (by omega) (Nat.le_refl _) (Nat.le_refl _) ?_
        refine x_callU C mu_X12_20_11 dX12_of_17 20 rfl [_, _] [] rfl rfl h1 (Nat.le_of_ble_eq_true rfl) (by omega) (Nat.le_refl _) (Nat.le_refl _) (kX14_by h1 hm) ?_
        rintro _ _ _ _ ⟨rfl, rfl, rfl, rfl⟩
        exact x_iret C dX12_of_20 (Nat.le_refl _) (Nat.le_refl _) ⟨rfl, rfl, rfl, rfl⟩
      · have hg := h6.2.2 h1
        have hg2 : g (sg8 I) = if ¬ g1 (sg8 I) = 0 ∧ ¬ g2 (sg8 I) = 0 then nI 1 else nI 0 := by rw [hg]
        rw [hg2]
        refine Ct.of [some _, some _] rfl (Nat.le_of_ble_eq_true rfl) (by decide) ?_
        intro κ hκ C
        subst hκ
        refine x_aloadr_n C dX12_of_0 1 rfl rfl ?_
        refine x_aloadr_n C dX12_of_1 2 rfl rfl ?_
        refine x_getr C fl_X12_7_12 (Or.inl ⟨_, rfl⟩) dX12_of_2 5 rfl h1 h2 ?_
        refine x_aloadr_n C dX12_of_5 6 rfl rfl ?_
        refine x_ev C mu_X12_16_8 mu_X12_16_9 mu_X12_16_10 mu_X12_16_11 mu_X12_16_12 dX12_of_6 9 rfl (Nat.le_of_ble_eq_true rfl) e1 (by omega) (Nat.le_refl _) (Nat.le_refl _) ?_
        refine x_aloadr_n C dX12_of_9 10 rfl rfl ?_
        refine x_getr C fl_X12_13_12 (Or.inl ⟨_, rfl⟩) dX12_of_10 13 rfl h1 h3 ?_
        refine x_aloadr_n C dX12_of_13 14 rfl rfl ?_
        refine x_ev C mu_X12_16_8 mu_X12_16_9 mu_X12_16_10 mu_X12_16_11 mu_X12_16_12 dX12_of_14 17 rfl (Nat.le_of_ble_eq_true rfl) e2 (by omega) (Nat.le_refl _) (Nat.le_refl _) ?_
        refine x_callU C mu_X12_20_12 dX12_of_17 20 rfl [_, _] [] rfl rfl h1 (Nat.le_of_ble_eq_true rfl) (by omega) (Nat.le_refl _) (Nat.le_refl _) (kX15_by) ?_
        rintro _ _ _ _ ⟨rfl, rfl, rfl, rfl⟩
        exact x_iret C dX12_of_20 (Nat.le_refl _) (Nat.le_refl _) ⟨rfl, rfl, rfl, rfl⟩
end Co33
