/-! pairs of a set, one after another -/
def fB (g : Nat → Nat → Nat) (a v : Nat) : Nat → Nat
  | 0 => v
  | j + 1 => g (2 ^ a ||| 2 ^ (a + j)) (fB g a v j)
def fA (g : Nat → Nat → Nat) (s v : Nat) : Nat → Nat
  | 0 => v
  | a + 1 => if s.testBit a = true then fB g a (fA g s v a) (10 - a) else fA g s v a
theorem fB_inv {g : Nat → Nat → Nat} {a : Nat} {P : Nat → Prop} {m : Nat} (h : ∀ b v, a ≤ b → b < m → P v → P (g (2 ^ a ||| 2 ^ b) v)) {v : Nat} (hv : P v) : ∀ j, a + j ≤ m → P (fB g a v j)
  | 0, _ => hv
  | j + 1, hj => h (a + j) _ (by omega) (by omega) (fB_inv h hv j (by omega))
theorem fA_inv {g : Nat → Nat → Nat} {s : Nat} {P : Nat → Prop} (h : ∀ a b v, s.testBit a = true → a ≤ b → b < 10 → P v → P (g (2 ^ a ||| 2 ^ b) v)) {v : Nat} (hv : P v) : ∀ n, n ≤ 10 → P (fA g s v n)
  | 0, _ => hv
  | a + 1, hn => by
    rw [fA]
    split
    · rename_i hb
      exact fB_inv (m := 10) (fun b v q1 q2 q3 => h a b v hb q1 q2 q3) (fA_inv h hv a (by omega)) (10 - a) (by omega)
    · exact fA_inv h hv a (by omega)
theorem fB_hit {g : Nat → Nat → Nat} {a : Nat} {P : Nat → Prop} (h : ∀ q v, P v → P (g q v)) {v b : Nat} (hab : a ≤ b) (hb : ∀ v, P (g (2 ^ a ||| 2 ^ b) v)) : ∀ j, b < a + j → P (fB g a v j)
  | 0, q => by omega
  | j + 1, q => by
    rw [fB]
    by_cases e : a + j = b
    · rw [e]
      exact hb _
    · exact h _ _ (fB_hit h hab hb j (by omega))
theorem fA_hit {g : Nat → Nat → Nat} {s : Nat} {P : Nat → Prop} (h : ∀ q v, P v → P (g q v)) {v a b : Nat} (hs : s.testBit a = true) (hab : a ≤ b) (hb10 : b < 10) (hb : ∀ v, P (g (2 ^ a ||| 2 ^ b) v)) : ∀ n, n ≤ 10 → a < n → P (fA g s v n)
  | 0, _, q => by omega
  | c + 1, hn, q => by
    rw [fA]
    by_cases e : c = a
    · subst e
      rw [if_pos hs]
      exact fB_hit h hab hb (10 - c) (by omega)
    · have ih := fA_hit h hs hab hb10 hb (v := v) c (by omega) (by omega)
      split
      · exact fB_inv (m := 10) (fun b v _ _ q => h _ v q) ih (10 - c) (by omega)
      · exact ih
theorem nd_sub {q s i : Nat} (h : nd q s = 0) (hq : q.testBit i = true) : s.testBit i = true := by
  have h1 := nd_bit q s i
  rw [h, Nat.zero_testBit, hq] at h1
  simpa using h1.symm
theorem sub_nd {q s : Nat} (h : ∀ i, q.testBit i = true → s.testBit i = true) : nd q s = 0 := by
  refine Nat.eq_of_testBit_eq (fun i => ?_)
  rw [nd_bit, Nat.zero_testBit]
  cases e : q.testBit i with
  | false => rfl
  | true => rw [h i e]; rfl
theorem sub_lt2 {q s n : Nat} (h : nd q s = 0) (hs : s < 2 ^ n) : q < 2 ^ n := by
  refine Nat.lt_pow_two_of_testBit q (fun i hi => ?_)
  cases e : q.testBit i with
  | false => rfl
  | true => exact absurd (bit_lt_n hs (nd_sub h e)) (by omega)
theorem xor_nd {q s : Nat} (h : nd q s = 0) : s ^^^ q = nd s q := by
  refine Nat.eq_of_testBit_eq (fun i => ?_)
  rw [Nat.testBit_xor, nd_bit]
  cases e : q.testBit i with
  | false => simp
  | true => rw [nd_sub h e]; rfl
theorem pair_lt {a b : Nat} (ha : a < 10) (hb : b < 10) : 2 ^ a ||| 2 ^ b < 1024 := or_lt (n := 10) (Nat.pow_lt_pow_right (by decide) ha) (Nat.pow_lt_pow_right (by decide) hb)
/-- a set of one or two is a pair -/
theorem pair_of {q : Nat} (hq : q < 1024) (h0 : ¬ q = 0) (h2 : cnt q.testBit 10 ≤ 2) : ∃ a b, a ≤ b ∧ b < 10 ∧ q.testBit a = true ∧ q = 2 ^ a ||| 2 ^ b := by
  obtain ⟨l1, l2, l3⟩ := lo_spec hq h0
  have hc := rs_cnt hq h0
  have hb := rs_bit hq h0
  by_cases hr : rs q = 0
  · refine ⟨lo q, lo q, Nat.le_refl _, l1, l2, Nat.eq_of_testBit_eq (fun i => ?_)⟩
    have := hb i
    rw [hr, Nat.zero_testBit] at this
    rw [Nat.testBit_or, Nat.testBit_two_pow, Bool.or_self]
    by_cases e : lo q = i
    · rw [← e, l2]
      simp
    · have e' : ¬ i = lo q := fun q => e q.symm
      simp [e'] at this
      simp [e, this]
  · have hrl := rs_lt hq
    obtain ⟨m1, m2, m3⟩ := lo_spec hrl hr
    have hc2 := rs_cnt hrl hr
    have hb2 := rs_bit hrl hr
    have hrr : rs (rs q) = 0 := (cnt_0n (rs_lt hrl)).mp (by omega)
    have hle : lo q ≤ lo (rs q) := Nat.not_lt.mp (fun h => by
      have := hb (lo (rs q))
      rw [m2, l3 _ h] at this
      cases this)
    refine ⟨lo q, lo (rs q), hle, m1, l2, Nat.eq_of_testBit_eq (fun i => ?_)⟩
    have h1 := hb i
    have h3 := hb2 i
    rw [hrr, Nat.zero_testBit] at h3
    rw [Nat.testBit_or, Nat.testBit_two_pow, Nat.testBit_two_pow]
    by_cases e1 : lo q = i
    · rw [← e1, l2]
      simp
    · have e1' : ¬ i = lo q := fun q => e1 q.symm
      simp only [e1', decide_false, Bool.not_false, Bool.and_true] at h1
      rw [h1] at h3
      by_cases e2 : lo (rs q) = i
      · rw [← h1, ← e2, m2]
        simp
      · have e2' : ¬ i = lo (rs q) := fun q => e2 q.symm
        simp only [e2', decide_false, Bool.not_false, Bool.and_true] at h3
        rw [← h3]
        simp [e1, e2]
/-- one step of the most -/
def gM (F : Nat → Bool) (D : Nat → Nat) (s q v : Nat) : Nat := if nd q s = 0 ∧ F q = true then (if v < cnt q.testBit 10 + D (nd s q) then cnt q.testBit 10 + D (nd s q) else v) else v
theorem nL_max {a b : Nat} (ha : a < 2 ^ 63) (hb : b < 2 ^ 63) : (if nL b < nL a then nL a else nL b) = nL (if a < b then b else a) := by
  by_cases h : a < b
  · rw [if_pos h, if_neg (by rw [nL_lt hb ha]; omega)]
  · rw [if_neg h]
    by_cases h2 : b < a
    · rw [if_pos (by rw [nL_lt hb ha]; exact h2)]
    · rw [if_neg (by rw [nL_lt hb ha]; exact h2), show a = b by omega]
theorem gM_le {F : Nat → Bool} {D : Nat → Nat} {s q v m : Nat} (hD : ∀ u, D u ≤ m) (hv : v ≤ m + 10) : gM F D s q v ≤ m + 10 := by
  have h1 := hD (nd s q)
  have h2 := cnt_le q.testBit 10
  unfold gM
  split
  · split <;> omega
  · exact hv
section Co23
variable {w : Wd} {l : Launch} {K : Ly} {S : Sh} {I T : Mi} {J : Ml}
theorem kX1_mostOf (hR : CoR K S I T) (hI : Tok T) (hF : FrOk T) {t r s : Nat} (ht : t < tn T) (hr : r < rn T t) (hs : s < 2 ^ pn T) (hbe : bedsOk T t) {D : Nat → Nat} {m : Nat} (hm : m ≤ 1000) (hD : ∀ u, D u ≤ m) (hJ : ∀ u, u < 1024 → nd u s = 0 → J (73 + (r + 1)) u = nL (D u)) : Ct w l yX1_mostOf cX1_mostOf 9 (some .long) 3 0 0 [.ref 0, .ref (ta K t), .int (nI r), .int (nI s)] S I J (Qe (some (.long (nL (fA (gM (fun q => mbB T (10 * t + r) q (pn T)) D s) s (D s) 10)))) S I J) := by
  have hp10 := tk_p2 hI
  have hr10 := tk_r2 hI (show t < 6 by have := tk_t2 hI; omega)
  have hs10 : s < 1024 := Nat.lt_of_lt_of_le hs (Nat.pow_le_pow_right (by decide) hp10)
  have hC := cr_S hR
  have hg := hC.2.2.2.2.1 (r + 1) (by omega)
  have hss : nd s s = 0 := sub_nd (fun i h => h)
  have hvA : ∀ n, n ≤ 10 → fA (gM (fun q => mbB T (10 * t + r) q (pn T)) D s) s (D s) n ≤ m + 10 := fun n hn => fA_inv (P := fun v => v ≤ m + 10) (fun _ _ _ _ _ _ q => gM_le hD q) (by have := hD s; omega) n hn
  refine Ct.of [some _, some _, some _, some _, none, none, none, none, none] rfl (Nat.le_of_ble_eq_true rfl) (by decide) ?_
  intro κ hκ C
  subst hκ
  have ha : ∀ (j a : Nat), a + j = 10 → XX w κ (Zr w κ (Qe (some (.long (nL (fA (gM (fun q => mbB T (10 * t + r) q (pn T)) D s) s (D s) 10)))) S I J)) 0 0 15 [some (.ref 0), some (.ref (ta K t)), some (.int (nI r)), some (.int (nI s)), some (.long (nL (fA (gM (fun q => mbB T (10 * t + r) q (pn T)) D s) s (D s) a))), none, some (.int (nI a)), none, none] [] S I J := by
    intro j
    induction j with
    | zero =>
      intro a e
      have e : a = 10 := e
      subst e
      refine x_iload C dX1_mostOf_15 17 rfl rfl ?_
      refine x_bip (j := 10) C dX1_mostOf_17 19 rfl (by decide) ?_
      refine x_icmpgeN C dX1_mostOf_19 22 119 rfl (by decide) (by omega) (by omega) (fun _ => ?_) (fun h19 => absurd h19 (by decide))
      refine x_lload C dX1_mostOf_119 121 rfl rfl ?_
      exact x_lret C dX1_mostOf_121 (Nat.le_refl _) (Nat.le_refl _) ⟨rfl, rfl, rfl, rfl⟩
    | succ j ih =>
      intro a e
      have hva := hvA a (by omega)
      have hb : s.testBit a = true → ∀ (i k : Nat), k + i = 10 - a → XX w κ (Zr w κ (Qe (some (.long (nL (fA (gM (fun q => mbB T (10 * t + r) q (pn T)) D s) s (D s) 10)))) S I J)) 0 0 38 [some (.ref 0), some (.ref (ta K t)), some (.int (nI r)), some (.int (nI s)), some (.long (nL (fB (gM (fun q => mbB T (10 * t + r) q (pn T)) D s) a (fA (gM (fun q => mbB T (10 * t + r) q (pn T)) D s) s (D s) a) k))), none, some (.int (nI a)), some (.int (nI (a + k))), none] [] S I J := by
        intro hbit i
        induction i with
        | zero =>
          intro k e2
          refine x_iload C dX1_mostOf_38 40 rfl rfl ?_
          refine x_bip (j := 10) C dX1_mostOf_40 42 rfl (by decide) ?_
          refine x_icmpgeN C dX1_mostOf_42 45 113 rfl (by decide) (by omega) (by omega) (fun _ => ?_) (fun h42 => absurd h42 (by omega))
          refine x_iinc C dX1_mostOf_113 116 rfl [_, _, _, _, _, _, _, _, _] (nI_inc _) (by decide) rfl rfl rfl ?_
          refine x_goto C dX1_mostOf_116 15 (by decide) ?_
          refine x_ls [some _, some _, some _, some _, some _, none, some _, none, none] ⟨rfl, rfl, rfl, rfl, rfl, rfl, trivial⟩ ?_
          have := ih (a + 1) (by omega)
          have hfa : fA (gM (fun q => mbB T (10 * t + r) q (pn T)) D s) s (D s) (a + 1) = fB (gM (fun q => mbB T (10 * t + r) q (pn T)) D s) a (fA (gM (fun q => mbB T (10 * t + r) q (pn T)) D s) s (D s) a) (10 - a) := by rw [fA, if_pos hbit]
          rw [hfa] at this
          rw [show k = 10 - a by omega]
          exact this
        | succ i ihb =>
          intro k e2
          have hvb : fB (gM (fun q => mbB T (10 * t + r) q (pn T)) D s) a (fA (gM (fun q => mbB T (10 * t + r) q (pn T)) D s) s (D s) a) k ≤ m + 10 := fB_inv (P := fun v => v ≤ m + 10) (m := 10) (fun _ _ _ _ q => gM_le hD q) hva k (by omega)
          have hnx := ihb (k + 1) (by omega)
          rw [fB] at hnx
          have hql := pair_lt (show a < 10 by omega) (show a + k < 10 by omega)
          generalize hq : 2 ^ a ||| 2 ^ (a + k) = q at *
          generalize hv : fB (gM (fun q => mbB T (10 * t + r) q (pn T)) D s) a (fA (gM (fun q => mbB T (10 * t + r) q (pn T)) D s) s (D s) a) k = v at *
          refine x_iload C dX1_mostOf_38 40 rfl rfl ?_
          refine x_bip (j := 10) C dX1_mostOf_40 42 rfl (by decide) ?_
          refine x_icmpgeN C dX1_mostOf_42 45 113 rfl (by decide) (by omega) (by omega) (fun h42 => absurd h42 (by omega)) (fun _ => ?_)
          refine x_ic (j := 1) C dX1_mostOf_45 46 rfl ?_
          refine x_iload C dX1_mostOf_46 48 rfl rfl ?_
          refine x_ishl C dX1_mostOf_48 49 rfl (nI_shl1' _ (by omega)) ?_
          refine x_ic (j := 1) C dX1_mostOf_49 50 rfl ?_
          refine x_iload C dX1_mostOf_50 52 rfl rfl ?_
          refine x_ishl C dX1_mostOf_52 53 rfl (nI_shl1' _ (by omega)) ?_
          refine x_ior C dX1_mostOf_53 54 rfl ((nI_or _ _).trans (congrArg nI hq)) ?_
          refine x_istore C dX1_mostOf_54 56 rfl [_, _, _, _, _, _, _, _, _] (by decide) rfl rfl ?_
          refine x_iload C dX1_mostOf_56 58 rfl rfl ?_
          refine x_iload_n C dX1_mostOf_58 59 rfl rfl ?_
          refine x_icm C dX1_mostOf_59 60 rfl ?_
          refine x_ixor C dX1_mostOf_60 61 rfl rfl ?_
          refine x_iand C dX1_mostOf_61 62 rfl (nI_nd _ _) ?_
          refine x_ifneN C dX1_mostOf_62 65 107 rfl (by decide) (by have : nd q s < 2 ^ 10 := nd_lt hql; omega) (fun h62 => ?_) (fun h62 => ?_)
          · have hsk : gM (fun q => mbB T (10 * t + r) q (pn T)) D s q v = v := by { unfold gM; rw [if_neg (fun z => h62 z.1)] }
            refine x_iinc C dX1_mostOf_107 110 rfl [_, _, _, _, _, _, _, _, _] (nI_inc _) (by decide) rfl rfl rfl ?_
            refine x_goto C dX1_mostOf_110 38 (by decide) ?_
            refine x_ls [some _, some _, some _, some _, some _, none, some _, some _, none] ⟨rfl, rfl, rfl, rfl, rfl, rfl, rfl, trivial⟩ ?_
            rw [hsk] at hnx
            exact hnx
          · have hq2 : q < 2 ^ pn T := sub_lt2 h62 hs
            refine x_aloadr_n C dX1_mostOf_65 66 rfl rfl ?_
            refine x_aloadr_n C dX1_mostOf_66 67 rfl rfl ?_
            refine x_getr C fl_X1_187 (Or.inr ⟨_, rfl⟩) dX1_mostOf_67 70 rfl (ct_T hR ht) (ct_rooms hR ht) ?_
            refine x_iload_n C dX1_mostOf_70 71 rfl rfl ?_
            refine x_aaldr (t := 6) C dX1_mostOf_71 72 rfl (ct_roomsA hR ht) (by decide) (ct_roomsN hR ht) rfl (by omega) (by decide) (cm_elt hR ht hr) ?_
            refine x_iload C dX1_mostOf_72 74 rfl rfl ?_
            refine x_callV C lk_X1_242 dX1_mostOf_74 77 rfl [_, _] [] rfl rfl hC.1 (Nat.le_of_ble_eq_true rfl) (by decide) (Nat.le_refl _) (Nat.le_refl _) (kX1_fits hR hI hF ht hr hq2 hbe) ?_
            rintro _ _ _ _ ⟨rfl, rfl, rfl, rfl⟩
            refine x_ifeqZ C dX1_mostOf_77 80 107 rfl (by decide) (fun h77 => ?_) (fun h77 => ?_)
            · have hsk : gM (fun q => mbB T (10 * t + r) q (pn T)) D s q v = v := by { unfold gM; rw [if_neg (fun z => Bool.noConfusion (h77.symm.trans z.2))] }
              refine x_iinc C dX1_mostOf_107 110 rfl [_, _, _, _, _, _, _, _, _] (nI_inc _) (by decide) rfl rfl rfl ?_
              refine x_goto C dX1_mostOf_110 38 (by decide) ?_
              refine x_ls [some _, some _, some _, some _, some _, none, some _, some _, none] ⟨rfl, rfl, rfl, rfl, rfl, rfl, rfl, trivial⟩ ?_
              rw [hsk] at hnx
              exact hnx
            · have hcl := cnt_le q.testBit 10
              have hxl : nd s q < 1024 := nd_lt (n := 10) hs10
              have hDq := hD (nd s q)
              have hsub : nd (nd s q) s = 0 := sub_nd (fun i z => by rw [nd_bit] at z; exact (Bool.and_eq_true_iff.mp z).1)
              refine x_lload C dX1_mostOf_80 82 rfl rfl ?_
              refine x_iload C dX1_mostOf_82 84 rfl rfl ?_
              refine x_callS C lk_X1_199 dX1_mostOf_84 87 rfl [_] [_] rfl rfl (Nat.le_of_ble_eq_true rfl) (by decide) (Nat.le_refl _) (Nat.le_refl _) (kJ3_bitCount hql) ?_
              rintro _ _ _ _ ⟨rfl, rfl, rfl, rfl⟩
              refine x_i2l C dX1_mostOf_87 88 rfl (nL_i2l (by omega)) ?_
              refine x_aloadr_n C dX1_mostOf_88 89 rfl rfl ?_
              refine x_getr C fl_X1_67 (Or.inr ⟨_, rfl⟩) dX1_mostOf_89 92 rfl hC.1 (coR_worths hC) ?_
              refine x_iload_n C dX1_mostOf_92 93 rfl rfl ?_
              refine x_ic (j := 1) C dX1_mostOf_93 94 rfl ?_
              refine x_iadd C dX1_mostOf_94 95 rfl (nI_add _ _) ?_
              refine x_aaldr (t := 10) C dX1_mostOf_95 96 rfl (coA_worths hC) (by decide) (coN_worths hC) rfl (by omega) (by decide) hg.1 ?_
              refine x_iload_n C dX1_mostOf_96 97 rfl rfl ?_
              refine x_iload C dX1_mostOf_97 99 rfl rfl ?_
              refine x_ixor C dX1_mostOf_99 100 rfl ((nI_xor _ _).trans (congrArg nI (xor_nd h62))) ?_
              refine x_lald C dX1_mostOf_100 101 rfl hg.2.1 hg.2.2 rfl (by omega) (by decide) (hJ _ hxl hsub) ?_
              refine x_ladd C dX1_mostOf_101 102 rfl (nL_add _ _) ?_
              refine x_mmaxL C q578 q579 q580 dX1_mostOf_102 105 rfl (Nat.le_of_ble_eq_true rfl) (by decide) (Nat.zero_le _) (Nat.zero_le _) ?_
              rw [nL_max (by omega) (by omega)]
              refine x_lstore C dX1_mostOf_105 107 rfl [_, _, _, _, _, _, _, _, _] (by decide) rfl rfl ?_
              refine x_iinc C dX1_mostOf_107 110 rfl [_, _, _, _, _, _, _, _, _] (nI_inc _) (by decide) rfl rfl rfl ?_
              refine x_goto C dX1_mostOf_110 38 (by decide) ?_
              refine x_ls [some _, some _, some _, some _, some _, none, some _, some _, none] ⟨rfl, rfl, rfl, rfl, rfl, rfl, rfl, trivial⟩ ?_
              unfold gM at hnx
              rw [if_pos ⟨h62, h77⟩] at hnx
              exact hnx
      refine x_iload C dX1_mostOf_15 17 rfl rfl ?_
      refine x_bip (j := 10) C dX1_mostOf_17 19 rfl (by decide) ?_
      refine x_icmpgeN C dX1_mostOf_19 22 119 rfl (by decide) (by omega) (by omega) (fun h19 => absurd h19 (by omega)) (fun _ => ?_)
      refine x_iload_n C dX1_mostOf_22 23 rfl rfl ?_
      refine x_iload C dX1_mostOf_23 25 rfl rfl ?_
      refine x_ishr C dX1_mostOf_25 26 rfl (nI_shrp _ _ (by omega) (by omega)) ?_
      refine x_ic (j := 1) C dX1_mostOf_26 27 rfl ?_
      refine x_iand C dX1_mostOf_27 28 rfl (nI_bit _ _) ?_
      refine x_ifneN C dX1_mostOf_28 31 34 rfl (by decide) (by have := bit_lt s a; omega) (fun h28 => ?_) (fun h28 => ?_)
      · have hbit : s.testBit a = true := by { rw [← bit_1]; have := bit_lt s a; omega }
        refine x_iload C dX1_mostOf_34 36 rfl rfl ?_
        refine x_istore C dX1_mostOf_36 38 rfl [_, _, _, _, _, _, _, _, _] (by decide) rfl rfl ?_
        exact hb hbit (10 - a) 0 (Nat.zero_add _)
      · have hbit := (bit_0 _ _).mp h28
        refine x_goto C dX1_mostOf_31 113 (by decide) ?_
        refine x_iinc C dX1_mostOf_113 116 rfl [_, _, _, _, _, _, _, _, _] (nI_inc _) (by decide) rfl rfl rfl ?_
        refine x_goto C dX1_mostOf_116 15 (by decide) ?_
        have := ih (a + 1) (by omega)
        have hfa : fA (gM (fun q => mbB T (10 * t + r) q (pn T)) D s) s (D s) (a + 1) = fA (gM (fun q => mbB T (10 * t + r) q (pn T)) D s) s (D s) a := by rw [fA, if_neg (by rw [hbit]; decide)]
        rw [hfa] at this
        exact this
  refine x_aloadr_n C dX1_mostOf_0 1 rfl rfl ?_
  refine x_getr C fl_X1_67 (Or.inr ⟨_, rfl⟩) dX1_mostOf_1 4 rfl hC.1 (coR_worths hC) ?_
  refine x_iload_n C dX1_mostOf_4 5 rfl rfl ?_
  refine x_ic (j := 1) C dX1_mostOf_5 6 rfl ?_
  refine x_iadd C dX1_mostOf_6 7 rfl (nI_add _ _) ?_
  refine x_aaldr (t := 10) C dX1_mostOf_7 8 rfl (coA_worths hC) (by decide) (coN_worths hC) rfl (by omega) (by decide) hg.1 ?_
  refine x_iload_n C dX1_mostOf_8 9 rfl rfl ?_
  refine x_lald C dX1_mostOf_9 10 rfl hg.2.1 hg.2.2 rfl (by omega) (by decide) (hJ s hs10 hss) ?_
  refine x_lstore C dX1_mostOf_10 12 rfl [_, _, _, _, _, _, _, _, _] (by decide) rfl rfl ?_
  refine x_ic (j := 0) C dX1_mostOf_12 13 rfl ?_
  refine x_istore C dX1_mostOf_13 15 rfl [_, _, _, _, _, _, _, _, _] (by decide) rfl rfl ?_
  exact ha 10 0 rfl
end Co23
