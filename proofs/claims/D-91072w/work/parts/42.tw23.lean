/-! the twin: the most that find a bed -/
noncomputable def dB (P : Prop) : Bool := @decide P (Classical.propDecidable P)
theorem dB_t {P : Prop} (h : P) : dB P = true := by unfold dB; exact @decide_eq_true P (Classical.propDecidable P) h
theorem dB_f {P : Prop} (h : ¬ P) : dB P = false := by unfold dB; exact @decide_eq_false P (Classical.propDecidable P) h
theorem dB_of {P : Prop} (h : dB P = true) : P := Classical.byContradiction fun q => by rw [dB_f q] at h; cases h
theorem dB_no {P : Prop} (h : dB P = false) : ¬ P := fun q => by rw [dB_t q] at h; cases h
theorem dB_c {P Q : Prop} (h : P ↔ Q) : dB P = dB Q := by rw [propext h]
def RC (I : Mi) (t : Nat) : Nat → Nat → Prop
  | 0, s => s = 0
  | r + 1, z => ∃ s x, s < 1024 ∧ RC I t r s ∧ mP I t r x = true ∧ x &&& s = 0 ∧ z = s ||| x
def mxS (P : Nat → Bool) : Nat → Nat
  | 0 => 0
  | s + 1 => if P s = true ∧ mxS P s < cnt s.testBit 10 then cnt s.testBit 10 else mxS P s
theorem mxS_le (P : Nat → Bool) : ∀ s, mxS P s ≤ 10
  | 0 => Nat.zero_le _
  | s + 1 => by
    rw [mxS]
    split
    · exact cnt_le _ _
    · exact mxS_le P s
noncomputable def sp_most (I : Mi) (t : Int32) : Int32 := if toB I t then nI (mxS (fun s => dB (RC I (nt t) (rn I (nt t)) s)) 1024) else -1
def moq (A B : Mi) : Prop := ∀ b i, b ≠ 498 → b ≠ 499 → b ≠ 502 → A b i = B b i
theorem moq.g {A B : Mi} (h : moq A B) : gq A B := by
  intro b i q
  refine h b i ?_ ?_ ?_ <;> (intro e; subst e; simp [gb] at q)
section Tw23
variable {w : Wd} {l : Launch} {S : Sh} {I : Mi} {J : Ml}
theorem kX3_most (hS : twS S) (hI : Tok I) (hbe : ∀ t, t < tn I → bedsOk I t) {t : Int32} : Ct w l yX3_most cX3_most 6 (some .int) 4 0 0 [.ref 473, .int t] S I J (Qf gq (sp_most I t) S I J) := by
  refine Ct.of [some _, some _, none, none, none, none] rfl (Nat.le_of_ble_eq_true rfl) (by decide) ?_
  intro κ hκ C
  subst hκ
  have hp10 := tk_p2 hI
  have ht6 := tk_t2 hI
  have hg30 := tk_g2 hI
  have hc30 := tk_c2 hI
  have hn500 := tk_n2 hI
  refine x_aloadr_n C dX3_most_0 1 rfl rfl ?_
  refine x_iload_n C dX3_most_1 2 rfl rfl ?_
  refine x_callV C lk_X3_170 dX3_most_2 5 rfl [_] [] rfl rfl hS.1 (Nat.le_of_ble_eq_true rfl) (by decide) (Nat.le_refl _) (Nat.le_refl _) (kX3_isTown hS) ?_
  rintro _ _ _ _ ⟨rfl, rfl, rfl, rfl⟩
  refine x_ifneZ C dX3_most_5 8 10 rfl (by decide) (fun h5 => ?_) (fun h5 => ?_)
  · obtain ⟨t, ht, rfl⟩ := to_I hI h5
    have et : nt (nI t) = t := nt_nI (by omega)
    have ht6' : t < 6 := by omega
    have hr10 := tk_r2 hI ht6'
    have hsp : sp_most I (nI t) = nI (mxS (fun s => dB (RC I t (rn I t) s)) 1024) := by unfold sp_most; rw [if_pos h5, et]
    rw [hsp]
    generalize hV : mxS (fun s => dB (RC I t (rn I t) s)) 1024 = V
    have hM4 : ∀ (j s : Nat) (M : Mi), s + j = 1024 → moq M I → (∀ s, s < 1024 → M 502 (1024 * rn I t + s) = bz (dB (RC I t (rn I t) s))) → XX w κ (Zr w κ (Qf gq (nI V) S I J)) 0 0 173 [some (.ref 473), some (.int (nI t)), some (.int (nI (rn I t))), some (.int (nI (mxS (fun s => dB (RC I t (rn I t) s)) s))), some (.int (nI s)), none] [] S M J := by
      intro j
      induction j with
      | zero =>
        intro s M hs hM h2
        have hs : s = 1024 := hs
        subst hs
        refine x_iload C dX3_most_173 175 rfl rfl ?_
        refine x_sip (j := 1024) C dX3_most_175 178 rfl (by decide) ?_
        refine x_icmpgeN C dX3_most_178 181 222 rfl (by decide) (by omega) (by omega) (fun _ => ?_) (fun h178 => absurd h178 (by omega))
        refine x_iload_n C dX3_most_222 223 rfl rfl ?_
        exact x_iret C dX3_most_223 (Nat.le_refl _) (Nat.le_refl _) ⟨rfl, by rw [hV], hM.g, jq_refl _⟩
      | succ j ih =>
        intro s M hs hM h2
        have hm := mxS_le (fun s => dB (RC I t (rn I t) s)) s
        have hc := cnt_le s.testBit 10
        have hgo := ih (s + 1) M (by omega) hM h2
        refine x_iload C dX3_most_173 175 rfl rfl ?_
        refine x_sip (j := 1024) C dX3_most_175 178 rfl (by decide) ?_
        refine x_icmpgeN C dX3_most_178 181 222 rfl (by decide) (by omega) (by omega) (fun h178 => absurd h178 (by omega)) (fun _ => ?_)
        refine x_aloadr_n C dX3_most_181 182 rfl rfl ?_
        refine x_getr C fl_X3_105 (Or.inr ⟨_, rfl⟩) dX3_most_182 185 rfl hS.1 (twR_reached hS) ?_
        refine x_sip (j := 1024) C dX3_most_185 188 rfl (by decide) ?_
        refine x_iload_n C dX3_most_188 189 rfl rfl ?_
        refine x_imul C dX3_most_189 190 rfl (pk_mul _ _) ?_
        refine x_iload C dX3_most_190 192 rfl rfl ?_
        refine x_iadd C dX3_most_192 193 rfl (nI_add _ _) ?_
        refine x_zald C dX3_most_193 194 rfl (twA_reached hS) (twN_reached hS) rfl (by omega) (by decide) (h2 s (by omega)) ?_
        refine x_ifeqZ C dX3_most_194 197 214 rfl (by decide) (fun h194 => ?_) (fun h194 => ?_)
        · rw [mxS, if_neg (fun q => by rw [h194] at q; cases q.1)] at hgo
          refine x_iload_n C dX3_most_214 215 rfl rfl ?_
          refine x_istore_n C dX3_most_215 216 rfl [_, _, _, _, _, _] (by decide) rfl rfl ?_
          refine x_iinc C dX3_most_216 219 rfl [_, _, _, _, _, _] (nI_inc _) (by decide) rfl rfl rfl ?_
          refine x_goto C dX3_most_219 173 (by decide) ?_
          exact hgo
        · refine x_iload C dX3_most_197 199 rfl rfl ?_
          refine x_callS C lk_X3_243 dX3_most_199 202 rfl [_] [] rfl rfl (Nat.le_of_ble_eq_true rfl) (by decide) (Nat.le_refl _) (Nat.le_refl _) (kX3_sizeOf (by omega)) ?_
          rintro _ _ _ _ ⟨rfl, rfl, rfl, rfl⟩
          refine x_iload_n C dX3_most_202 203 rfl rfl ?_
          refine x_icmpleN C dX3_most_203 206 214 rfl (by decide) (by omega) (by omega) (fun h203 => ?_) (fun h203 => ?_)
          · rw [mxS, if_neg (fun q => h203 q.2)] at hgo
            refine x_iload_n C dX3_most_214 215 rfl rfl ?_
            refine x_istore_n C dX3_most_215 216 rfl [_, _, _, _, _, _] (by decide) rfl rfl ?_
            refine x_iinc C dX3_most_216 219 rfl [_, _, _, _, _, _] (nI_inc _) (by decide) rfl rfl rfl ?_
            refine x_goto C dX3_most_219 173 (by decide) ?_
            exact hgo
          · rw [mxS, if_pos ⟨h194, h203⟩] at hgo
            refine x_iload C dX3_most_206 208 rfl rfl ?_
            refine x_callS C lk_X3_243 dX3_most_208 211 rfl [_] [] rfl rfl (Nat.le_of_ble_eq_true rfl) (by decide) (Nat.le_refl _) (Nat.le_refl _) (kX3_sizeOf (by omega)) ?_
            rintro _ _ _ _ ⟨rfl, rfl, rfl, rfl⟩
            refine x_goto C dX3_most_211 215 (by decide) ?_
            refine x_istore_n C dX3_most_215 216 rfl [_, _, _, _, _, _] (by decide) rfl rfl ?_
            refine x_iinc C dX3_most_216 219 rfl [_, _, _, _, _, _] (nI_inc _) (by decide) rfl rfl rfl ?_
            refine x_goto C dX3_most_219 173 (by decide) ?_
            exact hgo
    have hR : ∀ (j r : Nat) (M : Mi), r + j = rn I t → moq M I → (∀ r, r < rn I t → maOk I M t r) → (∀ r', r' ≤ r → ∀ s, s < 1024 → M 502 (1024 * r' + s) = bz (dB (RC I t r' s))) → (∀ r', r < r' → r' ≤ 10 → ∀ s, s < 1024 → M 502 (1024 * r' + s) = bz false) → XX w κ (Zr w κ (Qf gq (nI V) S I J)) 0 0 54 [some (.ref 473), some (.int (nI t)), some (.int (nI (rn I t))), some (.int (nI r)), none, none] [] S M J := by
      intro j
      induction j with
      | zero =>
        intro r M hr hM hma h1 h2
        have hr : rn I t = r := Eq.symm hr
        subst hr
        refine x_iload_n C dX3_most_54 55 rfl rfl ?_
        refine x_iload_n C dX3_most_55 56 rfl rfl ?_
        refine x_icmpgeN C dX3_most_56 59 168 rfl (by decide) (by omega) (by omega) (fun _ => ?_) (fun h56 => absurd h56 (by omega))
        refine x_ic (j := 0) C dX3_most_168 169 rfl ?_
        refine x_istore_n C dX3_most_169 170 rfl [_, _, _, _, _, _] (by decide) rfl rfl ?_
        refine x_ic (j := 0) C dX3_most_170 171 rfl ?_
        refine x_istore C dX3_most_171 173 rfl [_, _, _, _, _, _] (by decide) rfl rfl ?_
        exact hM4 1024 0 M rfl hM (h1 _ (Nat.le_refl _))
      | succ j ih =>
        intro r M hr hM hma h1 h2
        have hrr : r < rn I t := by omega
        have hposc : ∀ x, x ≤ 1024 → cnt (mP I t r) x ≤ 56 := by
          intro x hx
          obtain ⟨b, hb1, hb2⟩ := hbe t ht r hrr
          exact mP_cnt hp10 hb2 hb1 hx
        have hX : ∀ (j s : Nat) (M : Mi), s + j = 1024 → moq M I → (∀ r, r < rn I t → maOk I M t r) → (∀ r', r' ≤ r → ∀ s, s < 1024 → M 502 (1024 * r' + s) = bz (dB (RC I t r' s))) → (∀ z, z < 1024 → M 502 (1024 * (r + 1) + z) = bz (dB (∃ s0 x, s0 < s ∧ RC I t r s0 ∧ mP I t r x = true ∧ x &&& s0 = 0 ∧ z = s0 ||| x))) → (∀ r', r + 1 < r' → r' ≤ 10 → ∀ s, s < 1024 → M 502 (1024 * r' + s) = bz false) → XX w κ (Zr w κ (Qf gq (nI V) S I J)) 0 0 62 [some (.ref 473), some (.int (nI t)), some (.int (nI (rn I t))), some (.int (nI r)), some (.int (nI s)), none] [] S M J := by
          intro j
          induction j with
          | zero =>
            intro s M hs hM hma h1 hq h2
            have hs : s = 1024 := hs
            subst hs
            refine x_iload C dX3_most_62 64 rfl rfl ?_
            refine x_sip (j := 1024) C dX3_most_64 67 rfl (by decide) ?_
            refine x_icmpgeN C dX3_most_67 70 162 rfl (by decide) (by omega) (by omega) (fun _ => ?_) (fun h67 => absurd h67 (by omega))
            refine x_iinc C dX3_most_162 165 rfl [_, _, _, _, _, _] (nI_inc _) (by decide) rfl rfl rfl ?_
            refine x_goto C dX3_most_165 54 (by decide) ?_
            refine x_ls [some _, some _, some _, some _, none, none] ⟨rfl, rfl, rfl, rfl, trivial⟩ ?_
            refine ih (r + 1) M (by omega) hM hma (fun r' q s hs => ?_) h2
            by_cases e : r' = r + 1
            · subst e; exact hq s hs
            · exact h1 r' (by omega) s hs
          | succ j ih2 =>
            intro s M hs hM hma h1 hq h2
            have hK : ∀ (j y : Nat) (M : Mi), y ≤ 1024 → 1024 - y ≤ j → RC I t r s → moq M I → (∀ r, r < rn I t → maOk I M t r) → (∀ r', r' ≤ r → ∀ s, s < 1024 → M 502 (1024 * r' + s) = bz (dB (RC I t r' s))) → (∀ z, z < 1024 → M 502 (1024 * (r + 1) + z) = bz (dB ((∃ s0 x, s0 < s ∧ RC I t r s0 ∧ mP I t r x = true ∧ x &&& s0 = 0 ∧ z = s0 ||| x) ∨ ∃ x, x < y ∧ mP I t r x = true ∧ x &&& s = 0 ∧ z = s ||| x))) → (∀ r', r + 1 < r' → r' ≤ 10 → ∀ s, s < 1024 → M 502 (1024 * r' + s) = bz false) → XX w κ (Zr w κ (Qf gq (nI V) S I J)) 0 0 92 [some (.ref 473), some (.int (nI t)), some (.int (nI (rn I t))), some (.int (nI r)), some (.int (nI s)), some (.int (nI (cnt (mP I t r) y)))] [] S M J := by
              intro j
              have hcc := hposc 1024 (Nat.le_refl _)
              have hend : ∀ (y : Nat) (M : Mi), y ≤ 1024 → cnt (mP I t r) y = cnt (mP I t r) 1024 → RC I t r s → moq M I → (∀ r, r < rn I t → maOk I M t r) → (∀ r', r' ≤ r → ∀ s, s < 1024 → M 502 (1024 * r' + s) = bz (dB (RC I t r' s))) → (∀ z, z < 1024 → M 502 (1024 * (r + 1) + z) = bz (dB ((∃ s0 x, s0 < s ∧ RC I t r s0 ∧ mP I t r x = true ∧ x &&& s0 = 0 ∧ z = s0 ||| x) ∨ ∃ x, x < y ∧ mP I t r x = true ∧ x &&& s = 0 ∧ z = s ||| x))) → (∀ r', r + 1 < r' → r' ≤ 10 → ∀ s, s < 1024 → M 502 (1024 * r' + s) = bz false) → XX w κ (Zr w κ (Qf gq (nI V) S I J)) 0 0 92 [some (.ref 473), some (.int (nI t)), some (.int (nI (rn I t))), some (.int (nI r)), some (.int (nI s)), some (.int (nI (cnt (mP I t r) y)))] [] S M J := by
                intro y M hy hc hrc hM hma h1 hq h2
                obtain ⟨m1, m2⟩ := hma r hrr
                have hcy := hposc y hy
                refine x_iload C dX3_most_92 94 rfl rfl ?_
                refine x_aloadr_n C dX3_most_94 95 rfl rfl ?_
                refine x_getr C fl_X3_93 (Or.inr ⟨_, rfl⟩) dX3_most_95 98 rfl hS.1 (twR_mayMany hS) ?_
                refine x_iload_n C dX3_most_98 99 rfl rfl ?_
                refine x_iald C dX3_most_99 100 rfl (twA_mayMany hS) (twN_mayMany hS) rfl (by omega) (by decide) m1 ?_
                refine x_icmpgeN C dX3_most_100 103 156 rfl (by decide) (by omega) (by omega) (fun _ => ?_) (fun h100 => absurd h100 (by omega))
                refine x_iinc C dX3_most_156 159 rfl [_, _, _, _, _, _] (nI_inc _) (by decide) rfl rfl rfl ?_
                refine x_goto C dX3_most_159 62 (by decide) ?_
                refine x_ls [some _, some _, some _, some _, some _, none] ⟨rfl, rfl, rfl, rfl, rfl, trivial⟩ ?_
                refine ih2 (s + 1) M (by omega) hM hma h1 (fun z hz => (hq z hz).trans (congrArg bz (dB_c ⟨?_, ?_⟩))) h2
                · rintro (⟨s0, x, a1, a2⟩ | ⟨x, a1, a2, a3, a4⟩)
                  · exact ⟨s0, x, by omega, a2⟩
                  · exact ⟨s, x, by omega, hrc, a2, a3, a4⟩
                · rintro ⟨s0, x, a1, a2, a3, a4, a5⟩
                  by_cases e : s0 = s
                  · subst e
                    refine Or.inr ⟨x, ?_, a3, a4, a5⟩
                    rcases Nat.lt_or_ge x y with q | q
                    · exact q
                    · have := cnt_done hy hc x q (mP_lt hp10 a3)
                      rw [this] at a3; cases a3
                  · exact Or.inl ⟨s0, x, by omega, a2, a3, a4, a5⟩
              induction j with
              | zero =>
                intro y M hy hj hrc hM hma h1 hq h2
                have : y = 1024 := by omega
                subst this
                exact hend 1024 M (Nat.le_refl _) rfl hrc hM hma h1 hq h2
              | succ j ih3 =>
                intro y M hy hj hrc hM hma h1 hq h2
                by_cases hc : cnt (mP I t r) y = cnt (mP I t r) 1024
                · exact hend y M hy hc hrc hM hma h1 hq h2
                · have hlt : cnt (mP I t r) y < cnt (mP I t r) 1024 := by have := cnt_mono (mP I t r) hy; omega
                  obtain ⟨x, x1, x2, x3, x4, x5⟩ := cnt_next hlt
                  obtain ⟨m1, m2⟩ := hma r hrr
                  have hcy := hposc y hy
                  have hmx : M 498 (64 * r + cnt (mP I t r) y) = nI x := by rw [← x4]; exact m2 _ x2 x3
                  have hand : x &&& s < 1024 := and_lt (n := 10) (show x < 2 ^ 10 by omega)
                  have hor : s ||| x < 1024 := or_lt (n := 10) (show s < 2 ^ 10 by omega) (show x < 2 ^ 10 by omega)
                  have hstep : ∀ z, (∃ x', x' < x + 1 ∧ mP I t r x' = true ∧ x' &&& s = 0 ∧ z = s ||| x') ↔ ((∃ x', x' < y ∧ mP I t r x' = true ∧ x' &&& s = 0 ∧ z = s ||| x') ∨ (x &&& s = 0 ∧ z = s ||| x)) := by
                    intro z
                    constructor
                    · rintro ⟨x', a1, a2, a3, a4⟩
                      by_cases e : x' = x
                      · subst e; exact Or.inr ⟨a3, a4⟩
                      · refine Or.inl ⟨x', ?_, a2, a3, a4⟩
                        rcases Nat.lt_or_ge x' y with q | q
                        · exact q
                        · rw [x5 x' q (by omega)] at a2; cases a2
                    · rintro (⟨x', a1, a2⟩ | ⟨a1, a2⟩)
                      · exact ⟨x', by omega, a2⟩
                      · exact ⟨x, by omega, x3, a1, a2⟩
                  have hgo := fun (M : Mi) => ih3 (x + 1) M (by omega) (by omega) hrc
                  rw [cnt_t x3, x4] at hgo
                  refine x_iload C dX3_most_92 94 rfl rfl ?_
                  refine x_aloadr_n C dX3_most_94 95 rfl rfl ?_
                  refine x_getr C fl_X3_93 (Or.inr ⟨_, rfl⟩) dX3_most_95 98 rfl hS.1 (twR_mayMany hS) ?_
                  refine x_iload_n C dX3_most_98 99 rfl rfl ?_
                  refine x_iald C dX3_most_99 100 rfl (twA_mayMany hS) (twN_mayMany hS) rfl (by omega) (by decide) m1 ?_
                  refine x_icmpgeN C dX3_most_100 103 156 rfl (by decide) (by omega) (by omega) (fun h100 => absurd h100 (by omega)) (fun _ => ?_)
                  refine x_aloadr_n C dX3_most_103 104 rfl rfl ?_
                  refine x_getr C fl_X3_90 (Or.inr ⟨_, rfl⟩) dX3_most_104 107 rfl hS.1 (twR_may hS) ?_
                  refine x_bip (j := 64) C dX3_most_107 109 rfl (by decide) ?_
                  refine x_iload_n C dX3_most_109 110 rfl rfl ?_
                  refine x_imul C dX3_most_110 111 rfl (pk_mul _ _) ?_
                  refine x_iload C dX3_most_111 113 rfl rfl ?_
                  refine x_iadd C dX3_most_113 114 rfl (nI_add _ _) ?_
                  refine x_iald C dX3_most_114 115 rfl (twA_may hS) (twN_may hS) rfl (by omega) (by decide) hmx ?_
                  refine x_iload C dX3_most_115 117 rfl rfl ?_
                  refine x_iand C dX3_most_117 118 rfl (nI_and _ _) ?_
                  refine x_ifneN C dX3_most_118 121 150 rfl (by decide) (by omega) (fun h118 => ?_) (fun h118 => ?_)
                  · refine x_iinc C dX3_most_150 153 rfl [_, _, _, _, _, _] (nI_inc _) (by decide) rfl rfl rfl ?_
                    refine x_goto C dX3_most_153 92 (by decide) ?_
                    first
                      | exact hgo M hM hma h1 (fun z hz => (hq z hz).trans (congrArg bz (dB_c (by rw [hstep z]; constructor; exact fun a => a.elim Or.inl (fun a => Or.inr (Or.inl a)); exact fun a => a.elim Or.inl (fun a => a.elim Or.inr (fun a => absurd a.1 h118)))))) h2
                      | (refine hgo _ (fun b i q1 q2 q3 => by rw [sto_n _ _ _ q3]; exact hM b i q1 q2 q3) (fun r' q => ⟨by rw [sto_n _ _ _ (by decide)]; exact (hma r' q).1, fun x q1 q2 => by rw [sto_n _ _ _ (by decide)]; exact (hma r' q).2 x q1 q2⟩) (fun r' q1 z hz => by rw [sto_kn _ _ _ _ (by omega)]; exact h1 r' q1 z hz) (fun z hz => ?_) (fun r' q1 q2 z hz => by rw [sto_kn _ _ _ _ (by omega)]; exact h2 r' q1 q2 z hz)
                         rw [sto_at]
                         by_cases e : z = s ||| x
                         · rw [if_pos ⟨rfl, by rw [e]⟩, dB_t (Or.inr ((hstep z).mpr (Or.inr ⟨h118, e⟩)))]; rfl
                         · rw [if_neg (by omega)]
                           exact (hq z hz).trans (congrArg bz (dB_c (by rw [hstep z]; constructor; exact fun a => a.elim Or.inl (fun a => Or.inr (Or.inl a)); exact fun a => a.elim Or.inl (fun a => a.elim Or.inr (fun a => absurd a.2 e))))))
                  · refine x_aloadr_n C dX3_most_121 122 rfl rfl ?_
                    refine x_getr C fl_X3_105 (Or.inr ⟨_, rfl⟩) dX3_most_122 125 rfl hS.1 (twR_reached hS) ?_
                    refine x_sip (j := 1024) C dX3_most_125 128 rfl (by decide) ?_
                    refine x_iload_n C dX3_most_128 129 rfl rfl ?_
                    refine x_ic (j := 1) C dX3_most_129 130 rfl ?_
                    refine x_iadd C dX3_most_130 131 rfl (nI_add _ _) ?_
                    refine x_imul C dX3_most_131 132 rfl (pk_mul _ _) ?_
                    refine x_iload C dX3_most_132 134 rfl rfl ?_
                    refine x_aloadr_n C dX3_most_134 135 rfl rfl ?_
                    refine x_getr C fl_X3_90 (Or.inr ⟨_, rfl⟩) dX3_most_135 138 rfl hS.1 (twR_may hS) ?_
                    refine x_bip (j := 64) C dX3_most_138 140 rfl (by decide) ?_
                    refine x_iload_n C dX3_most_140 141 rfl rfl ?_
                    refine x_imul C dX3_most_141 142 rfl (pk_mul _ _) ?_
                    refine x_iload C dX3_most_142 144 rfl rfl ?_
                    refine x_iadd C dX3_most_144 145 rfl (nI_add _ _) ?_
                    refine x_iald C dX3_most_145 146 rfl (twA_may hS) (twN_may hS) rfl (by omega) (by decide) hmx ?_
                    refine x_ior C dX3_most_146 147 rfl (nI_or _ _) ?_
                    refine x_iadd C dX3_most_147 148 rfl (nI_add _ _) ?_
                    refine x_ic (j := 1) C dX3_most_148 149 rfl ?_
                    refine x_zast C dX3_most_149 150 rfl (twA_reached hS) (twN_reached hS) rfl (by omega) (by decide) rfl ?_
                    refine x_iinc C dX3_most_150 153 rfl [_, _, _, _, _, _] (nI_inc _) (by decide) rfl rfl rfl ?_
                    refine x_goto C dX3_most_153 92 (by decide) ?_
                    first
                      | exact hgo M hM hma h1 (fun z hz => (hq z hz).trans (congrArg bz (dB_c (by rw [hstep z]; constructor; exact fun a => a.elim Or.inl (fun a => Or.inr (Or.inl a)); exact fun a => a.elim Or.inl (fun a => a.elim Or.inr (fun a => absurd a.1 h118)))))) h2
                      | (refine hgo _ (fun b i q1 q2 q3 => by rw [sto_n _ _ _ q3]; exact hM b i q1 q2 q3) (fun r' q => ⟨by rw [sto_n _ _ _ (by decide)]; exact (hma r' q).1, fun x q1 q2 => by rw [sto_n _ _ _ (by decide)]; exact (hma r' q).2 x q1 q2⟩) (fun r' q1 z hz => by rw [sto_kn _ _ _ _ (by omega)]; exact h1 r' q1 z hz) (fun z hz => ?_) (fun r' q1 q2 z hz => by rw [sto_kn _ _ _ _ (by omega)]; exact h2 r' q1 q2 z hz)
                         rw [sto_at]
                         by_cases e : z = s ||| x
                         · rw [if_pos ⟨rfl, by rw [e]⟩, dB_t (Or.inr ((hstep z).mpr (Or.inr ⟨h118, e⟩)))]; rfl
                         · rw [if_neg (by omega)]
                           exact (hq z hz).trans (congrArg bz (dB_c (by rw [hstep z]; constructor; exact fun a => a.elim Or.inl (fun a => Or.inr (Or.inl a)); exact fun a => a.elim Or.inl (fun a => a.elim Or.inr (fun a => absurd a.2 e))))))
            refine x_iload C dX3_most_62 64 rfl rfl ?_
            refine x_sip (j := 1024) C dX3_most_64 67 rfl (by decide) ?_
            refine x_icmpgeN C dX3_most_67 70 162 rfl (by decide) (by omega) (by omega) (fun h67 => absurd h67 (by omega)) (fun _ => ?_)
            refine x_aloadr_n C dX3_most_70 71 rfl rfl ?_
            refine x_getr C fl_X3_105 (Or.inr ⟨_, rfl⟩) dX3_most_71 74 rfl hS.1 (twR_reached hS) ?_
            refine x_sip (j := 1024) C dX3_most_74 77 rfl (by decide) ?_
            refine x_iload_n C dX3_most_77 78 rfl rfl ?_
            refine x_imul C dX3_most_78 79 rfl (pk_mul _ _) ?_
            refine x_iload C dX3_most_79 81 rfl rfl ?_
            refine x_iadd C dX3_most_81 82 rfl (nI_add _ _) ?_
            refine x_zald C dX3_most_82 83 rfl (twA_reached hS) (twN_reached hS) rfl (by omega) (by decide) (h1 r (Nat.le_refl _) s (by omega)) ?_
            refine x_ifneZ C dX3_most_83 86 89 rfl (by decide) (fun h83 => ?_) (fun h83 => ?_)
            · refine x_ic (j := 0) C dX3_most_89 90 rfl ?_
              refine x_istore C dX3_most_90 92 rfl [_, _, _, _, _, _] (by decide) rfl rfl ?_
              exact hK 1024 0 M (by omega) (by omega) (dB_of h83) hM hma h1 (fun z hz => (hq z hz).trans (congrArg bz (dB_c ⟨Or.inl, fun a => a.elim id (fun ⟨x, q, _⟩ => by omega)⟩))) h2
            · refine x_goto C dX3_most_86 156 (by decide) ?_
              refine x_iinc C dX3_most_156 159 rfl [_, _, _, _, _, _] (nI_inc _) (by decide) rfl rfl rfl ?_
              refine x_goto C dX3_most_159 62 (by decide) ?_
              have hn := dB_no h83
              refine ih2 (s + 1) M (by omega) hM hma h1 (fun z hz => (hq z hz).trans (congrArg bz (dB_c ⟨?_, ?_⟩))) h2
              · rintro ⟨s0, x, a1, a2⟩; exact ⟨s0, x, by omega, a2⟩
              · rintro ⟨s0, x, a1, a2, a3⟩
                refine ⟨s0, x, ?_, a2, a3⟩
                rcases Nat.lt_or_ge s0 s with q | q
                · exact q
                · rw [show s0 = s by omega] at a2; exact absurd a2 hn
        refine x_iload_n C dX3_most_54 55 rfl rfl ?_
        refine x_iload_n C dX3_most_55 56 rfl rfl ?_
        refine x_icmpgeN C dX3_most_56 59 168 rfl (by decide) (by omega) (by omega) (fun h56 => absurd h56 (by omega)) (fun _ => ?_)
        refine x_ic (j := 0) C dX3_most_59 60 rfl ?_
        refine x_istore C dX3_most_60 62 rfl [_, _, _, _, _, _] (by decide) rfl rfl ?_
        refine hX 1024 0 M rfl hM hma h1 (fun z hz => ?_) (fun r' q1 q2 s hs => h2 r' (by omega) q2 s hs)
        rw [h2 (r + 1) (by omega) (by omega) z hz, dB_f (by rintro ⟨s0, x, a1, -⟩; omega)]
    have h0 : ∀ (j k : Nat) (M : Mi), k + j = 11264 → moq M I → (∀ r, r < rn I t → maOk I M t r) → (∀ i, i < k → M 502 i = bz (decide (i = 0))) → XX w κ (Zr w κ (Qf gq (nI V) S I J)) 0 0 24 [some (.ref 473), some (.int (nI t)), some (.int (nI (rn I t))), some (.int (nI k)), none, none] [] S M J := by
      intro j
      induction j with
      | zero =>
        intro k M hk hM hma hz
        have hk : k = 11264 := hk
        subst hk
        refine x_iload_n C dX3_most_24 25 rfl rfl ?_
        refine x_sip (j := 11264) C dX3_most_25 28 rfl (by decide) ?_
        refine x_icmpgeN C dX3_most_28 31 52 rfl (by decide) (by omega) (by omega) (fun _ => ?_) (fun h28 => absurd h28 (by omega))
        refine x_ic (j := 0) C dX3_most_52 53 rfl ?_
        refine x_istore_n C dX3_most_53 54 rfl [_, _, _, _, _, _] (by decide) rfl rfl ?_
        refine hR (rn I t) 0 M (Nat.zero_add _) hM hma (fun r' q s hs => ?_) (fun r' q1 q2 s hs => ?_)
        · have : r' = 0 := by omega
          subst this
          rw [hz _ (by omega)]
          by_cases e : s = 0
          · subst e; rw [dB_t (show RC I t 0 0 from rfl)]; rfl
          · rw [dB_f (show ¬ RC I t 0 s from e), decide_eq_false (by omega)]
        · rw [hz _ (by omega), decide_eq_false (by omega)]
      | succ j ih =>
        intro k M hk hM hma hz
        refine x_iload_n C dX3_most_24 25 rfl rfl ?_
        refine x_sip (j := 11264) C dX3_most_25 28 rfl (by decide) ?_
        refine x_icmpgeN C dX3_most_28 31 52 rfl (by decide) (by omega) (by omega) (fun h28 => absurd h28 (by omega)) (fun _ => ?_)
        refine x_aloadr_n C dX3_most_31 32 rfl rfl ?_
        refine x_getr C fl_X3_105 (Or.inr ⟨_, rfl⟩) dX3_most_32 35 rfl hS.1 (twR_reached hS) ?_
        refine x_iload_n C dX3_most_35 36 rfl rfl ?_
        refine x_iload_n C dX3_most_36 37 rfl rfl ?_
        apply x_jNZ0 (pj := 45) (fun kt kf => x_ifneN C dX3_most_37 40 44 rfl (by decide) (by omega) kt kf)
        case ht =>
          intro K
          refine x_ic (j := 0) C dX3_most_44 45 rfl ?_
          exact K
        case hf =>
          intro K
          refine x_ic (j := 1) C dX3_most_40 41 rfl ?_
          refine x_goto C dX3_most_41 45 (by decide) ?_
          exact K
        refine x_zast C dX3_most_45 46 rfl (twA_reached hS) (twN_reached hS) rfl (by omega) (by decide) (bz_nar _) ?_
        refine x_iinc C dX3_most_46 49 rfl [_, _, _, _, _, _] (nI_inc _) (by decide) rfl rfl rfl ?_
        refine x_goto C dX3_most_49 24 (by decide) ?_
        refine ih (k + 1) _ (by omega) (fun b i q1 q2 q3 => by rw [sto_n _ _ _ q3]; exact hM b i q1 q2 q3) (fun r' q => ⟨by rw [sto_n _ _ _ (by decide)]; exact (hma r' q).1, fun x q1 q2 => by rw [sto_n _ _ _ (by decide)]; exact (hma r' q).2 x q1 q2⟩) (fun i hi => ?_)
        rw [sto_at]
        by_cases e : i = k
        · subst e; simp
        · rw [if_neg (fun q => e q.2)]; exact hz i (by omega)
    refine x_aloadr_n C dX3_most_10 11 rfl rfl ?_
    refine x_iload_n C dX3_most_11 12 rfl rfl ?_
    refine x_callV C lk_X3_227 dX3_most_12 15 rfl [_] [] rfl rfl hS.1 (Nat.le_of_ble_eq_true rfl) (by decide) (Nat.le_refl _) (Nat.le_refl _) (kX3_findSets hS hI ht6' (hbe t ht)) ?_
    rintro _ _ M1 _ ⟨rfl, rfl, hs1, hma1, rfl⟩
    refine x_aloadr_n C dX3_most_15 16 rfl rfl ?_
    refine x_getr C fl_X3_51 (Or.inr ⟨_, rfl⟩) dX3_most_16 19 rfl hS.1 (twR_rooms hS) ?_
    refine x_iload_n C dX3_most_19 20 rfl rfl ?_
    refine x_iald C dX3_most_20 21 rfl (twA_rooms hS) (twN_rooms hS) rfl (by omega) (by decide) ((hs1 485 t (by decide) (by decide)).trans (tk_r hI ht6')) ?_
    refine x_istore_n C dX3_most_21 22 rfl [_, _, _, _, _, _] (by decide) rfl rfl ?_
    refine x_ic (j := 0) C dX3_most_22 23 rfl ?_
    refine x_istore_n C dX3_most_23 24 rfl [_, _, _, _, _, _] (by decide) rfl rfl ?_
    exact h0 11264 0 M1 (Nat.zero_add _) (fun b i q1 q2 _ => hs1 b i q1 q2) hma1 (fun i hi => by omega)
  · refine x_icm C dX3_most_8 9 rfl ?_
    exact x_iret C dX3_most_9 (Nat.le_refl _) (Nat.le_refl _) ⟨rfl, by simp [sp_most, h5], gq_refl _, jq_refl _⟩
end Tw23
