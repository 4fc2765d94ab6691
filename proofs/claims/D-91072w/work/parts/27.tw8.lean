/-! the twin: a text is read -/
abbrev Den : Type := (Nat → Int32) → Int32
abbrev PR (α : Type) : Type := Except (Nat × Nat) α
def isG (k : Int32) (v : Int64) (c : Nat) : Bool := decide (k = nI 3) && decide (v = (nI c).toInt64)
def isW (k : Int32) (v c : Int64) : Bool := decide (k = nI 1) && decide (v = c)
abbrev tG (t : Tk) (c : Nat) : Bool := isG t.2.2.1 t.2.2.2 c
abbrev tW (t : Tk) (c : Int64) : Bool := isW t.2.2.1 t.2.2.2 c
section
variable (tx : Nat → Int32) (n : Nat)
def pPart (wh : Option (Tk → PR (Tk × Den))) (t : Tk) : PR (Tk × Den) :=
  if tG t 40 then match wh with
    | none => .error (3, t.2.1)
    | some f => match f (nx tx n t.1) with
      | .error e => .error e
      | .ok (u, g) => if tG u 41 then .ok (nx tx n u.1, g) else .error (1, u.2.1)
  else if t.2.2.1 = nI 2 then .ok (nx tx n t.1, fun _ => t.2.2.2.toInt32)
  else if tW t 240023 then .ok (nx tx n t.1, fun σ => σ 0)
  else if tW t 161437 then .ok (nx tx n t.1, fun σ => σ 1)
  else if tW t 427333 then .ok (nx tx n t.1, fun σ => σ 2)
  else if tW t 232546955 then .ok (nx tx n t.1, fun σ => σ 3)
  else if tW t 275320391 then .ok (nx tx n t.1, fun σ => σ 4)
  else .error (1, t.2.1)
def pSumL (part : Tk → PR (Tk × Den)) : Nat → Tk → Den → PR (Tk × Den)
  | 0, t, g => .ok (t, g)
  | f + 1, t, g => if tG t 43 || tG t 45 then match part (nx tx n t.1) with
      | .error e => .error e
      | .ok (u, h) => pSumL part f u (if tG t 43 then fun σ => g σ + h σ else fun σ => g σ - h σ)
    else .ok (t, g)
def pSum (part : Tk → PR (Tk × Den)) (t : Tk) : PR (Tk × Den) := match part t with
  | .error e => .error e
  | .ok (u, g) => pSumL tx n part (n + 1) u g
def pTest (part : Tk → PR (Tk × Den)) (t : Tk) : PR (Tk × Den) := match pSum tx n part t with
  | .error e => .error e
  | .ok (u, g) => if tG u 60 || tG u 61 then match pSum tx n part (nx tx n u.1) with
      | .error e => .error e
      | .ok (u2, h) => .ok (u2, if tG u 60 then fun σ => if g σ < h σ then nI 1 else nI 0 else fun σ => if g σ = h σ then nI 1 else nI 0)
    else .ok (u, g)
def pWhL (part : Tk → PR (Tk × Den)) : Nat → Tk → Den → PR (Tk × Den)
  | 0, t, g => .ok (t, g)
  | f + 1, t, g => if tW t 1111 then match pTest tx n part (nx tx n t.1) with
      | .error e => .error e
      | .ok (u, h) => pWhL part f u (fun σ => if ¬ g σ = 0 ∧ ¬ h σ = 0 then nI 1 else nI 0)
    else .ok (t, g)
def pWh (part : Tk → PR (Tk × Den)) (t : Tk) : PR (Tk × Den) := match pTest tx n part t with
  | .error e => .error e
  | .ok (u, g) => pWhL tx n part (n + 1) u g
def pPt : Nat → Tk → PR (Tk × Den)
  | 0, t => pPart tx n none t
  | k + 1, t => pPart tx n (some (pWh tx n (pPt k))) t
end
/-! what a reading leaves: the token goes on, faults are some of these -/
def okR (n : Nat) (a : Nat) (r : PR (Tk × Den)) : Prop := (∀ u g, r = .ok (u, g) → a ≤ u.1 ∧ u.1 ≤ n ∧ u.2.1 ≤ n) ∧ (∀ e, r = .error e → (e.1 = 1 ∨ e.1 = 2 ∨ e.1 = 3) ∧ e.2 ≤ n)
section
variable {tx : Nat → Int32} {n : Nat}
theorem kind3 {k : Int32} {v : Int64} {c : Nat} (h : isG k v c = true) : k = nI 3 := by
  unfold isG at h; simp at h; exact h.1
theorem kind1 {k : Int32} {v c : Int64} (h : isW k v c = true) : k = nI 1 := by
  unfold isW at h; simp at h; exact h.1
/-- a token that isn't the end is behind where it was looked for -/
theorem pPart_ok {wh : Option (Tk → PR (Tk × Den))} (hw : ∀ f, wh = some f → ∀ t : Tk, t.1 ≤ n → t.2.1 ≤ n → okR n t.1 (f t)) {t : Tk} (h1 : t.1 ≤ n) (h2 : t.2.1 ≤ n) : okR n t.1 (pPart tx n wh t) ∧ (∀ q, pPart tx n wh t = .ok q → ¬ t.2.2.1 = nI 0) := by
  have hx := nx_le tx h1
  have e3 : ¬ nI 3 = nI 0 := by decide
  have e1 : ¬ nI 1 = nI 0 := by decide
  have e2 : ¬ nI 2 = nI 0 := by decide
  have good : ∀ g : Den, okR n t.1 (.ok (nx tx n t.1, g)) := fun g => ⟨fun u g' e => by cases e; exact ⟨hx.1, hx.2.1, hx.2.2.1⟩, fun e q => by cases q⟩
  unfold pPart
  split
  · rename_i hG
    have hk := kind3 hG
    split
    · exact ⟨⟨fun u g e => (by cases e), fun e q => by cases q; exact ⟨Or.inr (Or.inr rfl), h2⟩⟩, fun q e => by cases e⟩
    · rename_i f
      have hf := hw f rfl (nx tx n t.1) hx.2.1 hx.2.2.1
      split
      · rename_i e he
        exact ⟨⟨fun u g q => (by cases q), fun e2 q => by cases q; exact hf.2 _ he⟩, fun q e => by cases e⟩
      · rename_i u g he
        have hu := hf.1 _ _ he
        have hy := nx_le tx hu.2.1
        split
        · exact ⟨⟨fun u2 g2 q => by cases q; exact ⟨by omega, hy.2.1, hy.2.2.1⟩, fun e2 q => by cases q⟩, fun q e => by rw [hk]; exact e3⟩
        · exact ⟨⟨fun u2 g2 q => (by cases q), fun e2 q => by cases q; exact ⟨Or.inl rfl, hu.2.2⟩⟩, fun q e => by cases e⟩
  · split
    · rename_i hk
      exact ⟨good _, fun q e => by rw [hk]; exact e2⟩
    · split
      · rename_i hk; exact ⟨good _, fun q e => by rw [kind1 hk]; exact e1⟩
      · split
        · rename_i hk; exact ⟨good _, fun q e => by rw [kind1 hk]; exact e1⟩
        · split
          · rename_i hk; exact ⟨good _, fun q e => by rw [kind1 hk]; exact e1⟩
          · split
            · rename_i hk; exact ⟨good _, fun q e => by rw [kind1 hk]; exact e1⟩
            · split
              · rename_i hk; exact ⟨good _, fun q e => by rw [kind1 hk]; exact e1⟩
              · exact ⟨⟨fun u g e => (by cases e), fun e q => by cases q; exact ⟨Or.inl rfl, h2⟩⟩, fun q e => by cases e⟩
abbrev okP (n : Nat) (part : Tk → PR (Tk × Den)) : Prop := ∀ t : Tk, t.1 ≤ n → t.2.1 ≤ n → okR n t.1 (part t) ∧ ∀ q, part t = .ok q → ¬ t.2.2.1 = nI 0
theorem pSumL_ok {part : Tk → PR (Tk × Den)} (hp : okP n part) : ∀ (f : Nat) (t : Tk) (g : Den), t.1 ≤ n → t.2.1 ≤ n → okR n t.1 (pSumL tx n part f t g)
  | 0, t, g, h1, h2 => ⟨fun u g' e => by cases e; exact ⟨Nat.le_refl _, h1, h2⟩, fun e q => by cases q⟩
  | f + 1, t, g, h1, h2 => by
    have hx := nx_le tx h1
    have hp1 := hp (nx tx n t.1) hx.2.1 hx.2.2.1
    unfold pSumL
    split
    · split
      · rename_i e he
        exact ⟨fun u g' q => (by cases q), fun e2 q => by cases q; exact hp1.1.2 _ he⟩
      · rename_i u h he
        have hu := hp1.1.1 _ _ he
        have ih := pSumL_ok hp f u (if tG t 43 then fun σ => g σ + h σ else fun σ => g σ - h σ) hu.2.1 hu.2.2
        exact ⟨fun u2 g2 q => by have := ih.1 _ _ q; omega, ih.2⟩
    · exact ⟨fun u g' e => by cases e; exact ⟨Nat.le_refl _, h1, h2⟩, fun e q => by cases q⟩
theorem pSum_ok {part : Tk → PR (Tk × Den)} (hp : okP n part) : okP n (pSum tx n part) := by
  intro t h1 h2
  have hp1 := hp t h1 h2
  unfold pSum
  split
  · rename_i e he
    exact ⟨⟨fun u g' q => (by cases q), fun e2 q => by cases q; exact hp1.1.2 _ he⟩, fun q e => by cases e⟩
  · rename_i u g he
    have hu := hp1.1.1 _ _ he
    have ih := pSumL_ok (tx := tx) hp (n + 1) u g hu.2.1 hu.2.2
    exact ⟨⟨fun u2 g2 q => by have := ih.1 _ _ q; omega, ih.2⟩, fun q e => hp1.2 _ he⟩
theorem pTest_ok {part : Tk → PR (Tk × Den)} (hp : okP n part) : okP n (pTest tx n part) := by
  intro t h1 h2
  have hp1 := pSum_ok (tx := tx) hp t h1 h2
  unfold pTest
  split
  · rename_i e he
    exact ⟨⟨fun u g' q => (by cases q), fun e2 q => by cases q; exact hp1.1.2 _ he⟩, fun q e => by cases e⟩
  · rename_i u g he
    have hu := hp1.1.1 _ _ he
    have hx := nx_le tx hu.2.1
    have hp2 := pSum_ok (tx := tx) hp (nx tx n u.1) hx.2.1 hx.2.2.1
    split
    · split
      · rename_i e he2
        exact ⟨⟨fun u g' q => (by cases q), fun e2 q => by cases q; exact hp2.1.2 _ he2⟩, fun q e => by cases e⟩
      · rename_i u2 h he2
        have hu2 := hp2.1.1 _ _ he2
        exact ⟨⟨fun u3 g3 q => by cases q; exact ⟨by omega, hu2.2.1, hu2.2.2⟩, fun e2 q => by cases q⟩, fun q e => hp1.2 _ he⟩
    · exact ⟨⟨fun u g' e => by cases e; exact hu, fun e q => by cases q⟩, fun q e => hp1.2 _ he⟩
theorem pWhL_ok {part : Tk → PR (Tk × Den)} (hp : okP n part) : ∀ (f : Nat) (t : Tk) (g : Den), t.1 ≤ n → t.2.1 ≤ n → okR n t.1 (pWhL tx n part f t g)
  | 0, t, g, h1, h2 => ⟨fun u g' e => by cases e; exact ⟨Nat.le_refl _, h1, h2⟩, fun e q => by cases q⟩
  | f + 1, t, g, h1, h2 => by
    have hx := nx_le tx h1
    have hp1 := pTest_ok (tx := tx) hp (nx tx n t.1) hx.2.1 hx.2.2.1
    unfold pWhL
    split
    · split
      · rename_i e he
        exact ⟨fun u g' q => (by cases q), fun e2 q => by cases q; exact hp1.1.2 _ he⟩
      · rename_i u h he
        have hu := hp1.1.1 _ _ he
        have ih := pWhL_ok hp f u (fun σ => if ¬ g σ = 0 ∧ ¬ h σ = 0 then nI 1 else nI 0) hu.2.1 hu.2.2
        exact ⟨fun u2 g2 q => by have := ih.1 _ _ q; omega, ih.2⟩
    · exact ⟨fun u g' e => by cases e; exact ⟨Nat.le_refl _, h1, h2⟩, fun e q => by cases q⟩
theorem pWh_ok {part : Tk → PR (Tk × Den)} (hp : okP n part) : okP n (pWh tx n part) := by
  intro t h1 h2
  have hp1 := pTest_ok (tx := tx) hp t h1 h2
  unfold pWh
  split
  · rename_i e he
    exact ⟨⟨fun u g' q => (by cases q), fun e2 q => by cases q; exact hp1.1.2 _ he⟩, fun q e => by cases e⟩
  · rename_i u g he
    have hu := hp1.1.1 _ _ he
    have ih := pWhL_ok (tx := tx) hp (n + 1) u g hu.2.1 hu.2.2
    exact ⟨⟨fun u2 g2 q => by have := ih.1 _ _ q; omega, ih.2⟩, fun q e => hp1.2 _ he⟩
theorem pPt_ok : ∀ k : Nat, okP n (pPt tx n k)
  | 0 => fun t h1 h2 => pPart_ok (fun f hf => by cases hf) h1 h2
  | k + 1 => fun t h1 h2 => pPart_ok (fun f hf t q1 q2 => by cases hf; exact (pWh_ok (pPt_ok k) t q1 q2).1) h1 h2
end
/-- the state's words -/
def sg (I : Mi) : Nat → Int32 := fun k => match k with
  | 0 => I 473 54
  | 1 => I 473 55
  | 2 => I 473 56
  | 3 => I 473 57
  | _ => I 473 16
/-- how a reading ends in the twin's memory -/
def EndT (I : Mi) (J : Ml) (S : Sh) (dp fp : Int32) (res : PR (Tk × Den)) : Option Value → Sh → Mi → Ml → Prop := fun r S' I' J' => S = S' ∧ ∃ v, r = some (.int v) ∧
  ((∃ t g, res = .ok (t, g) ∧ v = g (sg I) ∧ I' = tmI I (nI t.1) (nI t.2.1) t.2.2.1 dp (nI 0) fp ∧ J' = tmJ J t.2.2.2) ∨ (∃ e a p d u, res = .error e ∧ I' = tmI I a p (nI 0) d (nI e.1) (nI e.2) ∧ J' = tmJ J u))
theorem EndT.ok {I : Mi} {J : Ml} {S : Sh} {dp fp : Int32} {res : PR (Tk × Den)} {t : Tk} {g : Den} (h : res = .ok (t, g)) {v : Int32} (hv : v = g (sg I)) : EndT I J S dp fp res (some (.int v)) S (tmI I (nI t.1) (nI t.2.1) t.2.2.1 dp (nI 0) fp) (tmJ J t.2.2.2) := ⟨rfl, v, rfl, Or.inl ⟨t, g, h, hv, rfl, rfl⟩⟩
theorem EndT.er {I : Mi} {J : Ml} {S : Sh} {dp fp : Int32} {res : PR (Tk × Den)} {k q : Nat} (h : res = .error (k, q)) {v a p d : Int32} {u : Int64} : EndT I J S dp fp res (some (.int v)) S (tmI I a p (nI 0) d (nI k) (nI q)) (tmJ J u) := ⟨rfl, v, rfl, Or.inr ⟨(k, q), a, p, d, u, h, rfl, rfl⟩⟩
theorem EndT.er' {I : Mi} {J : Ml} {S : Sh} {dp fp : Int32} {res : PR (Tk × Den)} {e : Nat × Nat} (h : res = .error e) {v a p d : Int32} {u : Int64} : EndT I J S dp fp res (some (.int v)) S (tmI I a p (nI 0) d (nI e.1) (nI e.2)) (tmJ J u) := ⟨rfl, v, rfl, Or.inr ⟨e, a, p, d, u, h, rfl, rfl⟩⟩
section Tw8
variable {w : Wd} {l : Launch} {S : Sh} {I : Mi} {J : Ml} {n : Nat} {aa pl tk dp fa fp : Int32} {v : Int64} {tx : Nat → Int32}
theorem kX3_isSign (hS : twS S) {c : Nat} : Ct w l yX3_isSign cX3_isSign 2 (some .boolean) 1 0 0 [.ref 473, .int (nI c)] S (tmI I aa pl tk dp fa fp) (tmJ J v) (Qe (some (.int (bz (isG tk v c)))) S (tmI I aa pl tk dp fa fp) (tmJ J v)) := by
  refine Ct.of [some _, some _] rfl (Nat.le_of_ble_eq_true rfl) (by decide) ?_
  intro κ hκ C
  subst hκ
  refine x_aloadr_n C dX3_isSign_0 1 rfl rfl ?_
  refine x_geti C fl_X3_262 (Or.inl rfl) dX3_isSign_1 4 rfl hS.1 (tr49 _ _ _ _ _ _ _) ?_
  refine x_ic (j := 3) C dX3_isSign_4 5 rfl ?_
  refine x_icmpne C dX3_isSign_5 8 22 rfl (by decide) (fun h5 => ?_) (fun h5 => ?_)
  · refine x_ic (j := 0) C dX3_isSign_22 23 rfl ?_
    exact x_zret C dX3_isSign_23 (Nat.le_refl _) (Nat.le_refl _) rfl (Qz_of (by simp [isG, bzt, bzf, h5]))
  · refine x_aloadr_n C dX3_isSign_8 9 rfl rfl ?_
    refine x_getl C fl_X3_258 dX3_isSign_9 12 rfl hS.1 (trJ _ _) ?_
    refine x_iload_n C dX3_isSign_12 13 rfl rfl ?_
    refine x_i2l C dX3_isSign_13 14 rfl rfl ?_
    refine x_lcmp C dX3_isSign_14 15 rfl ?_
    refine x_ifneC C dX3_isSign_15 18 22 rfl (by decide) (fun h15 => ?_) (fun h15 => ?_)
    · refine x_ic (j := 0) C dX3_isSign_22 23 rfl ?_
      exact x_zret C dX3_isSign_23 (Nat.le_refl _) (Nat.le_refl _) rfl (Qz_of (by simp [isG, bzt, bzf, h5, h15]))
    · refine x_ic (j := 1) C dX3_isSign_18 19 rfl ?_
      refine x_goto C dX3_isSign_19 23 (by decide) ?_
      exact x_zret C dX3_isSign_23 (Nat.le_refl _) (Nat.le_refl _) rfl (Qz_of (by simp [isG, bzt, bzf, h5, h15]))
theorem kX3_isWord (hS : twS S) {c : Int64} : Ct w l yX3_isWord cX3_isWord 3 (some .boolean) 1 0 0 [.ref 473, .long c] S (tmI I aa pl tk dp fa fp) (tmJ J v) (Qe (some (.int (bz (isW tk v c)))) S (tmI I aa pl tk dp fa fp) (tmJ J v)) := by
  refine Ct.of [some _, some _, none] rfl (Nat.le_of_ble_eq_true rfl) (by decide) ?_
  intro κ hκ C
  subst hκ
  refine x_aloadr_n C dX3_isWord_0 1 rfl rfl ?_
  refine x_geti C fl_X3_262 (Or.inl rfl) dX3_isWord_1 4 rfl hS.1 (tr49 _ _ _ _ _ _ _) ?_
  refine x_ic (j := 1) C dX3_isWord_4 5 rfl ?_
  refine x_icmpne C dX3_isWord_5 8 21 rfl (by decide) (fun h5 => ?_) (fun h5 => ?_)
  · refine x_ic (j := 0) C dX3_isWord_21 22 rfl ?_
    exact x_zret C dX3_isWord_22 (Nat.le_refl _) (Nat.le_refl _) rfl (Qz_of (by simp [isW, bzt, bzf, h5]))
  · refine x_aloadr_n C dX3_isWord_8 9 rfl rfl ?_
    refine x_getl C fl_X3_258 dX3_isWord_9 12 rfl hS.1 (trJ _ _) ?_
    refine x_lload_n C dX3_isWord_12 13 rfl rfl ?_
    refine x_lcmp C dX3_isWord_13 14 rfl ?_
    refine x_ifneC C dX3_isWord_14 17 21 rfl (by decide) (fun h14 => ?_) (fun h14 => ?_)
    · refine x_ic (j := 0) C dX3_isWord_21 22 rfl ?_
      exact x_zret C dX3_isWord_22 (Nat.le_refl _) (Nat.le_refl _) rfl (Qz_of (by simp [isW, bzt, bzf, h5, h14]))
    · refine x_ic (j := 1) C dX3_isWord_17 18 rfl ?_
      refine x_goto C dX3_isWord_18 22 (by decide) ?_
      exact x_zret C dX3_isWord_22 (Nat.le_refl _) (Nat.le_refl _) rfl (Qz_of (by simp [isW, bzt, bzf, h5, h14]))
theorem kX3_wrong (hS : twS S) {k : Nat} : Ct w l yX3_wrong cX3_wrong 2 none 1 0 0 [.ref 473, .int (nI k)] S (tmI I aa pl tk dp (nI 0) fp) J (Qv (tmI I aa pl (nI 0) dp (nI k) pl) S J) := by
  refine Ct.of [some _, some _] rfl (Nat.le_of_ble_eq_true rfl) (by decide) ?_
  intro κ hκ C
  subst hκ
  refine x_aloadr_n C dX3_wrong_0 1 rfl rfl ?_
  refine x_geti C fl_X3_294 (Or.inl rfl) dX3_wrong_1 4 rfl hS.1 (tr51 _ _ _ _ _ _ _) ?_
  refine x_ifleN C dX3_wrong_4 7 8 rfl (by decide) (by omega) (fun _ => ?_) (fun h4 => absurd h4 (by omega))
  refine x_aloadr_n C dX3_wrong_8 9 rfl rfl ?_
  refine x_iload_n C dX3_wrong_9 10 rfl rfl ?_
  refine x_puti C fl_X3_294 (Or.inl rfl) (Or.inl rfl) dX3_wrong_10 13 rfl hS.1 ?_
  refine x_eqI (tw51 _ _ _ _ _ _ _ _) ?_
  refine x_aloadr_n C dX3_wrong_13 14 rfl rfl ?_
  refine x_aloadr_n C dX3_wrong_14 15 rfl rfl ?_
  refine x_geti C fl_X3_255 (Or.inl rfl) dX3_wrong_15 18 rfl hS.1 (tr48 _ _ _ _ _ _ _) ?_
  refine x_puti C fl_X3_297 (Or.inl rfl) (Or.inl rfl) dX3_wrong_18 21 rfl hS.1 ?_
  refine x_eqI (tw52 _ _ _ _ _ _ _ _) ?_
  refine x_aloadr_n C dX3_wrong_21 22 rfl rfl ?_
  refine x_ic (j := 0) C dX3_wrong_22 23 rfl ?_
  refine x_puti C fl_X3_262 (Or.inl rfl) (Or.inl rfl) dX3_wrong_23 26 rfl hS.1 ?_
  refine x_eqI (tw49 _ _ _ _ _ _ _ _) ?_
  exact x_vret C dX3_wrong_26 (Nat.le_refl _) (Nat.le_refl _) (Qv_of rfl)
/-- a part, over what reads a whole within it -/
theorem kX3_part (hS : twS S) (hz : I 473 46 = nI n) (hn : n ≤ 400) (htx : ct (I 507) n = tx) {lev d : Nat} (hl : lev ≤ 5) (hd : 3 ≤ d) {wh : Option (Tk → PR (Tk × Den))} (hw0 : lev = 0 → wh = none)
    (hwh : ∀ k, lev = k + 1 → ∃ f, wh = some f ∧ (∀ t : Tk, t.1 ≤ n → t.2.1 ≤ n → okR n t.1 (f t)) ∧ ∀ (t : Tk) (fp : Int32), t.1 ≤ n → t.2.1 ≤ n → Ct w l yX3_whole cX3_whole 3 (some .int) (d - 1) 0 0 [.ref 473] S (tmI I (nI t.1) (nI t.2.1) t.2.2.1 (nI (5 - k)) (nI 0) fp) (tmJ J t.2.2.2) (EndT I J S (nI (5 - k)) fp (f t)))
    {t : Tk} (h1 : t.1 ≤ n) (h2 : t.2.1 ≤ n) : Ct w l yX3_part cX3_part 2 (some .int) d 0 0 [.ref 473] S (tmI I (nI t.1) (nI t.2.1) t.2.2.1 (nI (5 - lev)) (nI 0) fp) (tmJ J t.2.2.2) (EndT I J S (nI (5 - lev)) fp (pPart tx n wh t)) := by
  have hx := nx_le tx h1
  refine Ct.of [some _, none] rfl (Nat.le_of_ble_eq_true rfl) (by decide) ?_
  intro κ hκ C
  subst hκ
  refine x_aloadr_n C dX3_part_0 1 rfl rfl ?_
  refine x_geti C fl_X3_294 (Or.inl rfl) dX3_part_1 4 rfl hS.1 (tr51 _ _ _ _ _ _ _) ?_
  refine x_ifleN C dX3_part_4 7 9 rfl (by decide) (by omega) (fun _ => ?_) (fun h4 => absurd h4 (by omega))
  refine x_ic (j := 0) C dX3_part_9 10 rfl ?_
  refine x_istore_n C dX3_part_10 11 rfl [_, _] (by decide) rfl rfl ?_
  refine x_aloadr_n C dX3_part_11 12 rfl rfl ?_
  refine x_bip (j := 40) C dX3_part_12 14 rfl (by decide) ?_
  refine x_callV C lk_X3_300 dX3_part_14 17 rfl [_] [] rfl rfl hS.1 (Nat.le_of_ble_eq_true rfl) (by omega) (Nat.le_refl _) (Nat.le_refl _) (kX3_isSign hS) ?_
  rintro _ _ _ _ ⟨rfl, rfl, rfl, rfl⟩
  refine x_ifeqZ C dX3_part_17 20 89 rfl (by decide) (fun h17 => ?_) (fun h17 => ?_)
  · refine x_aloadr_n C dX3_part_89 90 rfl rfl ?_
    refine x_geti C fl_X3_262 (Or.inl rfl) dX3_part_90 93 rfl hS.1 (tr49 _ _ _ _ _ _ _) ?_
    refine x_ic (j := 2) C dX3_part_93 94 rfl ?_
    refine x_icmpne C dX3_part_94 97 106 rfl (by decide) (fun h94 => ?_) (fun h94 => ?_)
    · refine x_aloadr_n C dX3_part_106 107 rfl rfl ?_
      refine x_ldc2 C dX3_part_107 110 rfl q1668 ?_
      refine x_callV C lk_X3_318 dX3_part_110 113 rfl [_] [] rfl rfl hS.1 (Nat.le_of_ble_eq_true rfl) (by omega) (Nat.le_refl _) (Nat.le_refl _) (kX3_isWord hS) ?_
      rintro _ _ _ _ ⟨rfl, rfl, rfl, rfl⟩
      refine x_ifeqZ C dX3_part_113 116 124 rfl (by decide) (fun h113 => ?_) (fun h113 => ?_)
      · refine x_aloadr_n C dX3_part_124 125 rfl rfl ?_
        refine x_ldc2 C dX3_part_125 128 rfl q1669 ?_
        refine x_callV C lk_X3_318 dX3_part_128 131 rfl [_] [] rfl rfl hS.1 (Nat.le_of_ble_eq_true rfl) (by omega) (Nat.le_refl _) (Nat.le_refl _) (kX3_isWord hS) ?_
        rintro _ _ _ _ ⟨rfl, rfl, rfl, rfl⟩
        refine x_ifeqZ C dX3_part_131 134 142 rfl (by decide) (fun h131 => ?_) (fun h131 => ?_)
        · refine x_aloadr_n C dX3_part_142 143 rfl rfl ?_
          refine x_ldc2 C dX3_part_143 146 rfl q1670 ?_
          refine x_callV C lk_X3_318 dX3_part_146 149 rfl [_] [] rfl rfl hS.1 (Nat.le_of_ble_eq_true rfl) (by omega) (Nat.le_refl _) (Nat.le_refl _) (kX3_isWord hS) ?_
          rintro _ _ _ _ ⟨rfl, rfl, rfl, rfl⟩
          refine x_ifeqZ C dX3_part_149 152 160 rfl (by decide) (fun h149 => ?_) (fun h149 => ?_)
          · refine x_aloadr_n C dX3_part_160 161 rfl rfl ?_
            refine x_ldc2 C dX3_part_161 164 rfl q1671 ?_
            refine x_callV C lk_X3_318 dX3_part_164 167 rfl [_] [] rfl rfl hS.1 (Nat.le_of_ble_eq_true rfl) (by omega) (Nat.le_refl _) (Nat.le_refl _) (kX3_isWord hS) ?_
            rintro _ _ _ _ ⟨rfl, rfl, rfl, rfl⟩
            refine x_ifeqZ C dX3_part_167 170 178 rfl (by decide) (fun h167 => ?_) (fun h167 => ?_)
            · refine x_aloadr_n C dX3_part_178 179 rfl rfl ?_
              refine x_ldc2 C dX3_part_179 182 rfl q1672 ?_
              refine x_callV C lk_X3_318 dX3_part_182 185 rfl [_] [] rfl rfl hS.1 (Nat.le_of_ble_eq_true rfl) (by omega) (Nat.le_refl _) (Nat.le_refl _) (kX3_isWord hS) ?_
              rintro _ _ _ _ ⟨rfl, rfl, rfl, rfl⟩
              refine x_ifeqZ C dX3_part_185 188 196 rfl (by decide) (fun h185 => ?_) (fun h185 => ?_)
              · refine x_aloadr_n C dX3_part_196 197 rfl rfl ?_
                refine x_ic (j := 1) C dX3_part_197 198 rfl ?_
                refine x_callV C lk_X3_306 dX3_part_198 201 rfl [_] [] rfl rfl hS.1 (Nat.le_of_ble_eq_true rfl) (by omega) (Nat.le_refl _) (Nat.le_refl _) (kX3_wrong hS) ?_
                rintro _ _ _ _ ⟨rfl, rfl, rfl, rfl⟩
                refine x_ic (j := 0) C dX3_part_201 202 rfl ?_
                exact x_iret C dX3_part_202 (Nat.le_refl _) (Nat.le_refl _) (EndT.er (by simp [pPart, h17, h94, h113, h131, h149, h167, h185]))
              · refine x_aloadr_n C dX3_part_188 189 rfl rfl ?_
                refine x_geti C fl_X3_195 (Or.inl rfl) dX3_part_189 192 rfl hS.1 (trs _ _ _ _ _ _ _ (by omega)) ?_
                refine x_istore_n C dX3_part_192 193 rfl [_, _] (by decide) rfl rfl ?_
                refine x_goto C dX3_part_193 203 (by decide) ?_
                refine x_aloadr_n C dX3_part_203 204 rfl rfl ?_
                refine x_callV C lk_X3_309 dX3_part_204 207 rfl [] [] rfl rfl hS.1 (Nat.le_of_ble_eq_true rfl) (by omega) (Nat.le_refl _) (Nat.le_refl _) (kX3_nextc hS hz hn htx (by omega)) ?_
                rintro _ _ _ _ ⟨rfl, rfl, rfl, rfl⟩
                refine x_iload_n C dX3_part_207 208 rfl rfl ?_
                exact x_iret C dX3_part_208 (Nat.le_refl _) (Nat.le_refl _) (EndT.ok (g := fun σ => σ 4) (by simp [pPart, h17, h94, h113, h131, h149, h167, h185]) rfl)
            · refine x_aloadr_n C dX3_part_170 171 rfl rfl ?_
              refine x_geti C fl_X3_337 (Or.inl rfl) dX3_part_171 174 rfl hS.1 (trs _ _ _ _ _ _ _ (by omega)) ?_
              refine x_istore_n C dX3_part_174 175 rfl [_, _] (by decide) rfl rfl ?_
              refine x_goto C dX3_part_175 203 (by decide) ?_
              refine x_aloadr_n C dX3_part_203 204 rfl rfl ?_
              refine x_callV C lk_X3_309 dX3_part_204 207 rfl [] [] rfl rfl hS.1 (Nat.le_of_ble_eq_true rfl) (by omega) (Nat.le_refl _) (Nat.le_refl _) (kX3_nextc hS hz hn htx (by omega)) ?_
              rintro _ _ _ _ ⟨rfl, rfl, rfl, rfl⟩
              refine x_iload_n C dX3_part_207 208 rfl rfl ?_
              exact x_iret C dX3_part_208 (Nat.le_refl _) (Nat.le_refl _) (EndT.ok (g := fun σ => σ 3) (by simp [pPart, h17, h94, h113, h131, h149, h167]) rfl)
          · refine x_aloadr_n C dX3_part_152 153 rfl rfl ?_
            refine x_geti C fl_X3_332 (Or.inl rfl) dX3_part_153 156 rfl hS.1 (trs _ _ _ _ _ _ _ (by omega)) ?_
            refine x_istore_n C dX3_part_156 157 rfl [_, _] (by decide) rfl rfl ?_
            refine x_goto C dX3_part_157 203 (by decide) ?_
            refine x_aloadr_n C dX3_part_203 204 rfl rfl ?_
            refine x_callV C lk_X3_309 dX3_part_204 207 rfl [] [] rfl rfl hS.1 (Nat.le_of_ble_eq_true rfl) (by omega) (Nat.le_refl _) (Nat.le_refl _) (kX3_nextc hS hz hn htx (by omega)) ?_
            rintro _ _ _ _ ⟨rfl, rfl, rfl, rfl⟩
            refine x_iload_n C dX3_part_207 208 rfl rfl ?_
            exact x_iret C dX3_part_208 (Nat.le_refl _) (Nat.le_refl _) (EndT.ok (g := fun σ => σ 2) (by simp [pPart, h17, h94, h113, h131, h149]) rfl)
        · refine x_aloadr_n C dX3_part_134 135 rfl rfl ?_
          refine x_geti C fl_X3_327 (Or.inl rfl) dX3_part_135 138 rfl hS.1 (trs _ _ _ _ _ _ _ (by omega)) ?_
          refine x_istore_n C dX3_part_138 139 rfl [_, _] (by decide) rfl rfl ?_
          refine x_goto C dX3_part_139 203 (by decide) ?_
          refine x_aloadr_n C dX3_part_203 204 rfl rfl ?_
          refine x_callV C lk_X3_309 dX3_part_204 207 rfl [] [] rfl rfl hS.1 (Nat.le_of_ble_eq_true rfl) (by omega) (Nat.le_refl _) (Nat.le_refl _) (kX3_nextc hS hz hn htx (by omega)) ?_
          rintro _ _ _ _ ⟨rfl, rfl, rfl, rfl⟩
          refine x_iload_n C dX3_part_207 208 rfl rfl ?_
          exact x_iret C dX3_part_208 (Nat.le_refl _) (Nat.le_refl _) (EndT.ok (g := fun σ => σ 1) (by simp [pPart, h17, h94, h113, h131]) rfl)
      · refine x_aloadr_n C dX3_part_116 117 rfl rfl ?_
        refine x_geti C fl_X3_322 (Or.inl rfl) dX3_part_117 120 rfl hS.1 (trs _ _ _ _ _ _ _ (by omega)) ?_
        refine x_istore_n C dX3_part_120 121 rfl [_, _] (by decide) rfl rfl ?_
        refine x_goto C dX3_part_121 203 (by decide) ?_
        refine x_aloadr_n C dX3_part_203 204 rfl rfl ?_
        refine x_callV C lk_X3_309 dX3_part_204 207 rfl [] [] rfl rfl hS.1 (Nat.le_of_ble_eq_true rfl) (by omega) (Nat.le_refl _) (Nat.le_refl _) (kX3_nextc hS hz hn htx (by omega)) ?_
        rintro _ _ _ _ ⟨rfl, rfl, rfl, rfl⟩
        refine x_iload_n C dX3_part_207 208 rfl rfl ?_
        exact x_iret C dX3_part_208 (Nat.le_refl _) (Nat.le_refl _) (EndT.ok (g := fun σ => σ 0) (by simp [pPart, h17, h94, h113]) rfl)
    · refine x_aloadr_n C dX3_part_97 98 rfl rfl ?_
      refine x_getl C fl_X3_258 dX3_part_98 101 rfl hS.1 (trJ _ _) ?_
      refine x_l2i C dX3_part_101 102 rfl rfl ?_
      refine x_istore_n C dX3_part_102 103 rfl [_, _] (by decide) rfl rfl ?_
      refine x_goto C dX3_part_103 203 (by decide) ?_
      refine x_aloadr_n C dX3_part_203 204 rfl rfl ?_
      refine x_callV C lk_X3_309 dX3_part_204 207 rfl [] [] rfl rfl hS.1 (Nat.le_of_ble_eq_true rfl) (by omega) (Nat.le_refl _) (Nat.le_refl _) (kX3_nextc hS hz hn htx (by omega)) ?_
      rintro _ _ _ _ ⟨rfl, rfl, rfl, rfl⟩
      refine x_iload_n C dX3_part_207 208 rfl rfl ?_
      exact x_iret C dX3_part_208 (Nat.le_refl _) (Nat.le_refl _) (EndT.ok (g := fun _ => t.2.2.2.toInt32) (by simp [pPart, h17, h94]) rfl)
  · refine x_aloadr_n C dX3_part_20 21 rfl rfl ?_
    refine x_geti C fl_X3_303 (Or.inl rfl) dX3_part_21 24 rfl hS.1 (tr50 _ _ _ _ _ _ _) ?_
    refine x_ic (j := 5) C dX3_part_24 25 rfl ?_
    refine x_icmpneN C dX3_part_25 28 35 rfl (by decide) (by omega) (by omega) (fun h25 => ?_) (fun h25 => ?_)
    · obtain ⟨k, rfl⟩ : ∃ k, lev = k + 1 := ⟨lev - 1, by omega⟩
      obtain ⟨f, rfl, hfo, hf⟩ := hwh k rfl
      have e5 : 5 - (k + 1) + 1 = 5 - k := by omega
      have e6 : 5 - k - 1 = 5 - (k + 1) := by omega
      have hfn := hfo (nx tx n t.1) hx.2.1 hx.2.2.1
      refine x_aloadr_n C dX3_part_35 36 rfl rfl ?_
      refine x_dup C dX3_part_36 37 rfl rfl ?_
      refine x_geti C fl_X3_303 (Or.inl rfl) dX3_part_37 40 rfl hS.1 (tr50 _ _ _ _ _ _ _) ?_
      refine x_ic (j := 1) C dX3_part_40 41 rfl ?_
      refine x_iadd C dX3_part_41 42 rfl (nI_add _ _) ?_
      refine x_puti C fl_X3_303 (Or.inl rfl) (Or.inl rfl) dX3_part_42 45 rfl hS.1 ?_
      rw [e5]; refine x_eqI (tw50 _ _ _ _ _ _ _ _) ?_
      refine x_aloadr_n C dX3_part_45 46 rfl rfl ?_
      refine x_callV C lk_X3_309 dX3_part_46 49 rfl [] [] rfl rfl hS.1 (Nat.le_of_ble_eq_true rfl) (by omega) (Nat.le_refl _) (Nat.le_refl _) (kX3_nextc hS hz hn htx (by omega)) ?_
      rintro _ _ _ _ ⟨rfl, rfl, rfl, rfl⟩
      refine x_aloadr_n C dX3_part_49 50 rfl rfl ?_
      refine x_callV C lk_X3_312 dX3_part_50 53 rfl [] [] rfl rfl hS.1 (Nat.le_of_ble_eq_true rfl) (by omega) (Nat.le_refl _) (Nat.le_refl _) (hf (nx tx n t.1) fp hx.2.1 hx.2.2.1) ?_
      rintro _ _ _ _ ⟨rfl, v, rfl, ⟨u, g, e1, rfl, rfl, rfl⟩ | ⟨e, a1, p1, d1, u1, e1, rfl, rfl⟩⟩
      · have hu := hfn.1 _ _ e1
        refine x_istore_n C dX3_part_53 54 rfl [_, _] (by decide) rfl rfl ?_
        refine x_aloadr_n C dX3_part_54 55 rfl rfl ?_
        refine x_dup C dX3_part_55 56 rfl rfl ?_
        refine x_geti C fl_X3_303 (Or.inl rfl) dX3_part_56 59 rfl hS.1 (tr50 _ _ _ _ _ _ _) ?_
        refine x_ic (j := 1) C dX3_part_59 60 rfl ?_
        refine x_isub C dX3_part_60 61 rfl (pk_sub (by omega)) ?_
        refine x_puti C fl_X3_303 (Or.inl rfl) (Or.inl rfl) dX3_part_61 64 rfl hS.1 ?_
        rw [e6]; refine x_eqI (tw50 _ _ _ _ _ _ _ _) ?_
        refine x_aloadr_n C dX3_part_64 65 rfl rfl ?_
        refine x_geti C fl_X3_294 (Or.inl rfl) dX3_part_65 68 rfl hS.1 (tr51 _ _ _ _ _ _ _) ?_
        refine x_ifleN C dX3_part_68 71 73 rfl (by decide) (by omega) (fun _ => ?_) (fun h68 => absurd h68 (by omega))
        refine x_aloadr_n C dX3_part_73 74 rfl rfl ?_
        refine x_bip (j := 41) C dX3_part_74 76 rfl (by decide) ?_
        refine x_callV C lk_X3_300 dX3_part_76 79 rfl [_] [] rfl rfl hS.1 (Nat.le_of_ble_eq_true rfl) (by omega) (Nat.le_refl _) (Nat.le_refl _) (kX3_isSign hS) ?_
        rintro _ _ _ _ ⟨rfl, rfl, rfl, rfl⟩
        refine x_ifneZ C dX3_part_79 82 203 rfl (by decide) (fun h79 => ?_) (fun h79 => ?_)
        · refine x_aloadr_n C dX3_part_203 204 rfl rfl ?_
          refine x_callV C lk_X3_309 dX3_part_204 207 rfl [] [] rfl rfl hS.1 (Nat.le_of_ble_eq_true rfl) (by omega) (Nat.le_refl _) (Nat.le_refl _) (kX3_nextc hS hz hn htx hu.2.1) ?_
          rintro _ _ _ _ ⟨rfl, rfl, rfl, rfl⟩
          refine x_iload_n C dX3_part_207 208 rfl rfl ?_
          exact x_iret C dX3_part_208 (Nat.le_refl _) (Nat.le_refl _) (EndT.ok (g := g) (by unfold pPart; rw [if_pos h17]; simp [e1, h79]) rfl)
        · refine x_aloadr_n C dX3_part_82 83 rfl rfl ?_
          refine x_ic (j := 1) C dX3_part_83 84 rfl ?_
          refine x_callV C lk_X3_306 dX3_part_84 87 rfl [_] [] rfl rfl hS.1 (Nat.le_of_ble_eq_true rfl) (by omega) (Nat.le_refl _) (Nat.le_refl _) (kX3_wrong hS) ?_
          rintro _ _ _ _ ⟨rfl, rfl, rfl, rfl⟩
          refine x_ic (j := 0) C dX3_part_87 88 rfl ?_
          exact x_iret C dX3_part_88 (Nat.le_refl _) (Nat.le_refl _) (EndT.er (by unfold pPart; rw [if_pos h17]; simp [e1, h79]))
      · have hu := hfn.2 _ e1
        refine x_istore_n C dX3_part_53 54 rfl [_, _] (by decide) rfl rfl ?_
        refine x_aloadr_n C dX3_part_54 55 rfl rfl ?_
        refine x_dup C dX3_part_55 56 rfl rfl ?_
        refine x_geti C fl_X3_303 (Or.inl rfl) dX3_part_56 59 rfl hS.1 (tr50 _ _ _ _ _ _ _) ?_
        refine x_ic (j := 1) C dX3_part_59 60 rfl ?_
        refine x_isub C dX3_part_60 61 rfl rfl ?_
        refine x_puti C fl_X3_303 (Or.inl rfl) (Or.inl rfl) dX3_part_61 64 rfl hS.1 ?_
        refine x_eqI (tw50 _ _ _ _ _ _ _ _) ?_
        refine x_aloadr_n C dX3_part_64 65 rfl rfl ?_
        refine x_geti C fl_X3_294 (Or.inl rfl) dX3_part_65 68 rfl hS.1 (tr51 _ _ _ _ _ _ _) ?_
        refine x_ifleN C dX3_part_68 71 73 rfl (by decide) (by omega) (fun h68 => absurd h68 (by omega)) (fun _ => ?_)
        refine x_ic (j := 0) C dX3_part_71 72 rfl ?_
        exact x_iret C dX3_part_72 (Nat.le_refl _) (Nat.le_refl _) (EndT.er' (by unfold pPart; rw [if_pos h17]; simp [e1]))
    · have h0 : lev = 0 := by omega
      refine x_aloadr_n C dX3_part_28 29 rfl rfl ?_
      refine x_ic (j := 3) C dX3_part_29 30 rfl ?_
      refine x_callV C lk_X3_306 dX3_part_30 33 rfl [_] [] rfl rfl hS.1 (Nat.le_of_ble_eq_true rfl) (by omega) (Nat.le_refl _) (Nat.le_refl _) (kX3_wrong hS) ?_
      rintro _ _ _ _ ⟨rfl, rfl, rfl, rfl⟩
      refine x_ic (j := 0) C dX3_part_33 34 rfl ?_
      exact x_iret C dX3_part_34 (Nat.le_refl _) (Nat.le_refl _) (EndT.er (by unfold pPart; rw [if_pos h17, hw0 h0]))
end Tw8
