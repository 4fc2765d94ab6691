/-! the component's heap against the twin's memory T -/
/-- persons, towns, rooms, contracts: where they lie -/
abbrev Ly : Type := (Nat → Nat) × (Nat → Nat) × (Nat → Nat → Nat) × (Nat → Nat)
abbrev pa (K : Ly) : Nat → Nat := K.1
abbrev ta (K : Ly) : Nat → Nat := K.2.1
abbrev ra (K : Ly) : Nat → Nat → Nat := K.2.2.1
abbrev ca (K : Ly) : Nat → Nat := K.2.2.2
/-! expressions in the heap, by what they tell -/
def ExR (S : Sh) (I : Mi) : Nat → Nat → Den → Prop
  | 0, _, _ => False
  | n + 1, a, g => (S.1 a = 8 ∧ g = (fun _ => I a 0)) ∨ (∃ k, S.1 a = 9 ∧ I a 0 = nI k ∧ k < 5 ∧ g = (fun σ => σ k)) ∨
    (∃ b c g1 g2, (S.1 a = 10 ∨ S.1 a = 11 ∨ S.1 a = 12) ∧ S.2.2.1 a 0 = some b ∧ S.2.2.1 a 1 = some c ∧ ExR S I n b g1 ∧ ExR S I n c g2 ∧
      ((S.1 a = 10 → ∃ m, I a 2 = bz m ∧ g = if m = true then fun σ => g1 σ + g2 σ else fun σ => g1 σ - g2 σ) ∧
       (S.1 a = 11 → ∃ m, I a 2 = bz m ∧ g = if m = true then fun σ => if g1 σ < g2 σ then nI 1 else nI 0 else fun σ => if g1 σ = g2 σ then nI 1 else nI 0) ∧
       (S.1 a = 12 → g = fun σ => if ¬ g1 σ = 0 ∧ ¬ g2 σ = 0 then nI 1 else nI 0)))
def RuR (S : Sh) (I : Mi) (a : Nat) (q : Rul) : Prop := S.1 a = 13 ∧ I a 0 = nI q.1 ∧ q.1 < 4 ∧ (∃ b, S.2.2.1 a 1 = some b ∧ ExR S I 500 b q.2.1) ∧ (match q.2.2 with
  | none => S.2.2.1 a 2 = none
  | some h => ∃ b, S.2.2.1 a 2 = some b ∧ ExR S I 500 b h)
/-- a list of rules -/
def LiR (S : Sh) (I : Mi) (a : Nat) (L : List Rul) : Prop := S.1 a = 14 ∧ I a 2 = nI L.length ∧ L.length ≤ 12 ∧ ∃ e N, S.2.2.1 a 1 = some e ∧ S.1 e = 107 ∧ S.2.1 e = N ∧ L.length ≤ N ∧ N < 2147483648 ∧ ∀ k q, L[k]? = some q → ∃ b, S.2.2.1 e k = some b ∧ RuR S I b q
/-- cells that stay as they were made -/
def immT (k : Nat) : Prop := (8 ≤ k ∧ k ≤ 14) ∨ k = 107
def imq (S : Sh) (I : Mi) (S' : Sh) (I' : Mi) : Prop := ∀ a, immT (S.1 a) → S'.1 a = S.1 a ∧ S'.2.1 a = S.2.1 a ∧ S'.2.2.1 a = S.2.2.1 a ∧ I' a = I a
theorem ExR.keep {S S' : Sh} {I I' : Mi} (h : imq S I S' I') : ∀ {n a : Nat} {g : Den}, ExR S I n a g → ExR S' I' n a g
  | 0, _, _, q => q
  | n + 1, a, g, q => by
    rcases q with ⟨h1, h2⟩ | ⟨k, h1, h2⟩ | ⟨b, c, g1, g2, h1, h2, h3, h4, h5, h6⟩
    · obtain ⟨e1, e2, e3, e4⟩ := h a (by rw [h1]; exact Or.inl (by omega))
      exact Or.inl ⟨by rw [e1]; exact h1, by rw [e4]; exact h2⟩
    · obtain ⟨e1, e2, e3, e4⟩ := h a (by rw [h1]; exact Or.inl (by omega))
      exact Or.inr (Or.inl ⟨k, by rw [e1]; exact h1, by rw [e4]; exact h2⟩)
    · obtain ⟨e1, e2, e3, e4⟩ := h a (by rcases h1 with q | q | q <;> (rw [q]; exact Or.inl (by omega)))
      refine Or.inr (Or.inr ⟨b, c, g1, g2, by rw [e1]; exact h1, by rw [e3]; exact h2, by rw [e3]; exact h3, ExR.keep h h4, ExR.keep h h5, ?_⟩)
      rw [e1, e4]
      exact h6
theorem RuR.keep {S S' : Sh} {I I' : Mi} (h : imq S I S' I') {a : Nat} {q : Rul} (hr : RuR S I a q) : RuR S' I' a q := by
  obtain ⟨h1, h2, h3, ⟨b, h4, h5⟩, h6⟩ := hr
  obtain ⟨e1, e2, e3, e4⟩ := h a (by rw [h1]; exact Or.inl (by omega))
  refine ⟨by rw [e1]; exact h1, by rw [e4]; exact h2, h3, ⟨b, by rw [e3]; exact h4, h5.keep h⟩, ?_⟩
  rw [e3]
  cases hq : q.2.2 with
  | none => rw [hq] at h6; exact h6
  | some g => rw [hq] at h6; obtain ⟨b, h7, h8⟩ := h6; exact ⟨b, h7, h8.keep h⟩
theorem LiR.keep {S S' : Sh} {I I' : Mi} (h : imq S I S' I') {a : Nat} {L : List Rul} (hr : LiR S I a L) : LiR S' I' a L := by
  obtain ⟨h1, h2, h3, e, N, h4, h5, h6, h7, h8, h9⟩ := hr
  obtain ⟨e1, e2, e3, e4⟩ := h a (by rw [h1]; exact Or.inl (by omega))
  obtain ⟨f1, f2, f3, f4⟩ := h e (by rw [h5]; exact Or.inr rfl)
  refine ⟨by rw [e1]; exact h1, by rw [e4]; exact h2, h3, e, N, by rw [e3]; exact h4, by rw [f1]; exact h5, by rw [f2]; exact h6, h7, h8, fun k q hk => ?_⟩
  obtain ⟨b, g1, g2⟩ := h9 k q hk
  exact ⟨b, by rw [f3]; exact g1, g2.keep h⟩
/-- who is barred, as bits -/
def bmN (T : Mi) (p : Nat) : Nat := msk (fun q => !decide (T 482 (10 * p + q) = 0)) 10
def frR (K : Ly) (T : Mi) (p : Nat) : Option Nat := if T 481 p = -1 then none else some (pa K (nt (T 481 p)))
def coSc (I T : Mi) : Prop := I 0 2 = T 473 1 ∧ I 0 3 = T 473 11 ∧ I 0 4 = T 473 12 ∧ I 0 5 = T 473 13 ∧ I 0 6 = T 473 14 ∧ I 0 7 = T 473 15 ∧ I 0 8 = T 473 16 ∧ I 0 9 = T 473 17 ∧ I 0 10 = T 473 26 ∧ I 0 11 = T 473 37 ∧ I 0 17 = T 473 41 ∧ I 0 30 = T 473 63 ∧ (I 0 35 = if T 473 70 = 0 then -1 else T 473 71) ∧ I 0 36 = T 473 72 ∧ I 0 37 = T 473 73 ∧ I 0 38 = T 473 74
def perR (K : Ly) (S : Sh) (I T : Mi) (p : Nat) : Prop := S.2.2.1 1 p = some (pa K p) ∧ S.1 (pa K p) = 3 ∧ I (pa K p) 0 = nI p ∧ I (pa K p) 1 = T 475 p ∧ I (pa K p) 2 = T 477 p ∧ I (pa K p) 3 = T 474 p ∧ I (pa K p) 4 = T 476 p ∧ I (pa K p) 5 = T 478 p ∧ I (pa K p) 6 = T 479 p ∧ I (pa K p) 7 = nI (bmN T p) ∧ I (pa K p) 8 = T 497 p ∧ I (pa K p) 9 = T 480 p ∧ S.2.2.1 (pa K p) 10 = frR K T p
def rooR (K : Ly) (S : Sh) (I T : Mi) (t r : Nat) : Prop := S.2.2.1 (ta K t + 1) r = some (ra K t r) ∧ S.1 (ra K t r) = 5 ∧ I (ra K t r) 0 = T 486 (10 * t + r) ∧ I (ra K t r) 1 = T 488 (10 * t + r) ∧ I (ra K t r) 2 = T 487 (10 * t + r) ∧ I (ra K t r) 3 = T 489 (10 * t + r)
def towR (K : Ly) (S : Sh) (I T : Mi) (t : Nat) : Prop := S.2.2.1 2 t = some (ta K t) ∧ S.1 (ta K t) = 4 ∧ I (ta K t) 0 = T 483 t ∧ I (ta K t) 1 = T 484 t ∧ I (ta K t) 3 = T 485 t ∧ S.2.2.1 (ta K t) 2 = some (ta K t + 1) ∧ S.1 (ta K t + 1) = 106 ∧ S.2.1 (ta K t + 1) = 10 ∧ S.2.2.1 (ta K t) 4 = some (ta K t + 2) ∧ S.1 (ta K t + 2) = 100 ∧ S.2.1 (ta K t + 2) = 10 ∧ S.2.2.1 (ta K t) 5 = some (ca K t) ∧ (∀ p, p < 10 → I (ta K t + 2) p = T 490 (10 * t + p)) ∧ ∀ r, r < rn T t → rooR K S I T t r
def cntR (K : Ly) (S : Sh) (I T : Mi) (t : Nat) : Prop := LiR S I (ca K t) (rulesOf T t) ∧ T 506 t = nI (rulesOf T t).length
def coNo (I T : Mi) : Prop := ∀ k, k < nn T → ∃ n, n < 60 ∧ T 492 k = nI n ∧ I 3 k = nI (n / 10) ∧ I 4 k = nI (n % 10) ∧ I 5 k = T 493 k ∧ I 6 k = T 491 k
def coTp (I T : Mi) : Prop := ∀ k, k < dn T → I 7 k = T 503 k
def coBk (I T : Mi) : Prop := (∀ n p, n < 30 → p < 10 → I (10 + n) p = T 494 (10 * n + p) ∧ I (41 + n) p = T 495 (10 * n + p)) ∧ ∀ n, n < 30 → I 71 n = T 496 n
def coTr (I T : Mi) : Prop := (∀ i, i < 7 → I 458 i = T 510 i ∧ I 459 i = T 511 i ∧ I 460 i = T 512 i) ∧ (∀ i j, i < 7 → j < 7 → I (462 + i) j = T 513 (7 * i + j)) ∧ ∀ i, i < 6 → I 471 i = T 516 i ∧ I 472 i = T 517 i
/-- where things lie -/
def layR (K : Ly) (S : Sh) (T : Mi) : Prop := (∀ p q, p < pn T → q < pn T → pa K p = pa K q → p = q) ∧ (∀ t u, t < tn T → u < tn T → ta K t = ta K u → t = u) ∧ (∀ t u r s, t < tn T → u < tn T → r < rn T t → s < rn T u → ra K t r = ra K u s → t = u ∧ r = s) ∧ (∀ p, p < pn T → 520 ≤ pa K p ∧ pa K p < S.2.2.2) ∧ (∀ t, t < tn T → 520 ≤ ta K t ∧ ta K t + 2 < S.2.2.2) ∧ (∀ t r, t < tn T → r < rn T t → 520 ≤ ra K t r ∧ ra K t r < S.2.2.2) ∧ 520 ≤ S.2.2.2
def CoR (K : Ly) (S : Sh) (I T : Mi) : Prop := coS S ∧ coSc I T ∧ (∀ p, p < pn T → perR K S I T p) ∧ (∀ t, t < tn T → towR K S I T t) ∧ (∀ t, t < tn T → cntR K S I T t) ∧ coNo I T ∧ coTp I T ∧ coBk I T ∧ coTr I T ∧ layR K S T
section
variable {K : Ly} {S : Sh} {I T : Mi}
theorem cr_S (h : CoR K S I T) : coS S := h.1
theorem cs_peopleMany (h : CoR K S I T) : I 0 2 = T 473 1 := h.2.1.1
theorem cs_townMany (h : CoR K S I T) : I 0 3 = T 473 11 := h.2.1.2.1
theorem cs_nightMany (h : CoR K S I T) : I 0 4 = T 473 12 := h.2.1.2.2.1
theorem cs_closed (h : CoR K S I T) : I 0 5 = T 473 13 := h.2.1.2.2.2.1
theorem cs_day (h : CoR K S I T) : I 0 6 = T 473 14 := h.2.1.2.2.2.2.1
theorem cs_start (h : CoR K S I T) : I 0 7 = T 473 15 := h.2.1.2.2.2.2.2.1
theorem cs_season (h : CoR K S I T) : I 0 8 = T 473 16 := h.2.1.2.2.2.2.2.2.1
theorem cs_spent (h : CoR K S I T) : I 0 9 = T 473 17 := h.2.1.2.2.2.2.2.2.2.1
theorem cs_noteMany (h : CoR K S I T) : I 0 10 = T 473 26 := h.2.1.2.2.2.2.2.2.2.2.1
theorem cs_moved (h : CoR K S I T) : I 0 11 = T 473 37 := h.2.1.2.2.2.2.2.2.2.2.2.1
theorem cs_taped (h : CoR K S I T) : I 0 17 = T 473 41 := h.2.1.2.2.2.2.2.2.2.2.2.2.1
theorem cs_sightMany (h : CoR K S I T) : I 0 30 = T 473 63 := h.2.1.2.2.2.2.2.2.2.2.2.2.2.1
theorem cs_bestMany (h : CoR K S I T) : I 0 35 = if T 473 70 = 0 then -1 else T 473 71 := h.2.1.2.2.2.2.2.2.2.2.2.2.2.2.1
theorem cs_bestEnd (h : CoR K S I T) : I 0 36 = T 473 72 := h.2.1.2.2.2.2.2.2.2.2.2.2.2.2.2.1
theorem cs_bestDriven (h : CoR K S I T) : I 0 37 = T 473 73 := h.2.1.2.2.2.2.2.2.2.2.2.2.2.2.2.2.1
theorem cs_bestRests (h : CoR K S I T) : I 0 38 = T 473 74 := h.2.1.2.2.2.2.2.2.2.2.2.2.2.2.2.2.2
theorem cr_pe (h : CoR K S I T) {p : Nat} (hp : p < pn T) : perR K S I T p := h.2.2.1 p hp
theorem cr_to (h : CoR K S I T) {t : Nat} (ht : t < tn T) : towR K S I T t := h.2.2.2.1 t ht
theorem cr_ct (h : CoR K S I T) {t : Nat} (ht : t < tn T) : cntR K S I T t := h.2.2.2.2.1 t ht
theorem cr_no (h : CoR K S I T) : coNo I T := h.2.2.2.2.2.1
theorem cr_tp (h : CoR K S I T) : coTp I T := h.2.2.2.2.2.2.1
theorem cr_bk (h : CoR K S I T) : coBk I T := h.2.2.2.2.2.2.2.1
theorem cr_tr (h : CoR K S I T) : coTr I T := h.2.2.2.2.2.2.2.2.1
theorem cr_ly (h : CoR K S I T) : layR K S T := h.2.2.2.2.2.2.2.2.2
theorem cp_elt (h : CoR K S I T) {p : Nat} (hp : p < pn T) : S.2.2.1 1 p = some (pa K p) := (cr_pe h hp).1
theorem cp_T (h : CoR K S I T) {p : Nat} (hp : p < pn T) : S.1 (pa K p) = 3 := (cr_pe h hp).2.1
theorem cp_number (h : CoR K S I T) {p : Nat} (hp : p < pn T) : I (pa K p) 0 = nI p := (cr_pe h hp).2.2.1
theorem cp_sort (h : CoR K S I T) {p : Nat} (hp : p < pn T) : I (pa K p) 1 = T 475 p := (cr_pe h hp).2.2.2.1
theorem cp_diet (h : CoR K S I T) {p : Nat} (hp : p < pn T) : I (pa K p) 2 = T 477 p := (cr_pe h hp).2.2.2.2.1
theorem cp_shares (h : CoR K S I T) {p : Nat} (hp : p < pn T) : I (pa K p) 3 = T 474 p := (cr_pe h hp).2.2.2.2.2.1
theorem cp_low (h : CoR K S I T) {p : Nat} (hp : p < pn T) : I (pa K p) 4 = T 476 p := (cr_pe h hp).2.2.2.2.2.2.1
theorem cp_from (h : CoR K S I T) {p : Nat} (hp : p < pn T) : I (pa K p) 5 = T 478 p := (cr_pe h hp).2.2.2.2.2.2.2.1
theorem cp_to (h : CoR K S I T) {p : Nat} (hp : p < pn T) : I (pa K p) 6 = T 479 p := (cr_pe h hp).2.2.2.2.2.2.2.2.1
theorem cp_bars (h : CoR K S I T) {p : Nat} (hp : p < pn T) : I (pa K p) 7 = nI (bmN T p) := (cr_pe h hp).2.2.2.2.2.2.2.2.2.1
theorem cp_owes (h : CoR K S I T) {p : Nat} (hp : p < pn T) : I (pa K p) 8 = T 497 p := (cr_pe h hp).2.2.2.2.2.2.2.2.2.2.1
theorem cp_isGone (h : CoR K S I T) {p : Nat} (hp : p < pn T) : I (pa K p) 9 = T 480 p := (cr_pe h hp).2.2.2.2.2.2.2.2.2.2.2.1
theorem cp_friend (h : CoR K S I T) {p : Nat} (hp : p < pn T) : S.2.2.1 (pa K p) 10 = frR K T p := (cr_pe h hp).2.2.2.2.2.2.2.2.2.2.2.2
theorem ct_elt (h : CoR K S I T) {t : Nat} (ht : t < tn T) : S.2.2.1 2 t = some (ta K t) := (cr_to h ht).1
theorem ct_T (h : CoR K S I T) {t : Nat} (ht : t < tn T) : S.1 (ta K t) = 4 := (cr_to h ht).2.1
theorem ct_nights (h : CoR K S I T) {t : Nat} (ht : t < tn T) : I (ta K t) 0 = T 483 t := (cr_to h ht).2.2.1
theorem ct_first (h : CoR K S I T) {t : Nat} (ht : t < tn T) : I (ta K t) 1 = T 484 t := (cr_to h ht).2.2.2.1
theorem ct_roomMany (h : CoR K S I T) {t : Nat} (ht : t < tn T) : I (ta K t) 3 = T 485 t := (cr_to h ht).2.2.2.2.1
theorem ct_rooms (h : CoR K S I T) {t : Nat} (ht : t < tn T) : S.2.2.1 (ta K t) 2 = some (ta K t + 1) := (cr_to h ht).2.2.2.2.2.1
theorem ct_roomsA (h : CoR K S I T) {t : Nat} (ht : t < tn T) : S.1 (ta K t + 1) = 106 := (cr_to h ht).2.2.2.2.2.2.1
theorem ct_roomsN (h : CoR K S I T) {t : Nat} (ht : t < tn T) : S.2.1 (ta K t + 1) = 10 := (cr_to h ht).2.2.2.2.2.2.2.1
theorem ct_list (h : CoR K S I T) {t : Nat} (ht : t < tn T) : S.2.2.1 (ta K t) 4 = some (ta K t + 2) := (cr_to h ht).2.2.2.2.2.2.2.2.1
theorem ct_listA (h : CoR K S I T) {t : Nat} (ht : t < tn T) : S.1 (ta K t + 2) = 100 := (cr_to h ht).2.2.2.2.2.2.2.2.2.1
theorem ct_listN (h : CoR K S I T) {t : Nat} (ht : t < tn T) : S.2.1 (ta K t + 2) = 10 := (cr_to h ht).2.2.2.2.2.2.2.2.2.2.1
theorem ct_contract (h : CoR K S I T) {t : Nat} (ht : t < tn T) : S.2.2.1 (ta K t) 5 = some (ca K t) := (cr_to h ht).2.2.2.2.2.2.2.2.2.2.2.1
theorem ct_listI (h : CoR K S I T) {t : Nat} (ht : t < tn T) : ∀ p, p < 10 → I (ta K t + 2) p = T 490 (10 * t + p) := (cr_to h ht).2.2.2.2.2.2.2.2.2.2.2.2.1
theorem ct_room (h : CoR K S I T) {t r : Nat} (ht : t < tn T) (hr : r < rn T t) : rooR K S I T t r := (cr_to h ht).2.2.2.2.2.2.2.2.2.2.2.2.2 r hr
theorem cm_elt (h : CoR K S I T) {t r : Nat} (ht : t < tn T) (hr : r < rn T t) : S.2.2.1 (ta K t + 1) r = some (ra K t r) := (ct_room h ht hr).1
theorem cm_T (h : CoR K S I T) {t r : Nat} (ht : t < tn T) (hr : r < rn T t) : S.1 (ra K t r) = 5 := (ct_room h ht hr).2.1
theorem cm_beds (h : CoR K S I T) {t r : Nat} (ht : t < tn T) (hr : r < rn T t) : I (ra K t r) 0 = T 486 (10 * t + r) := (ct_room h ht hr).2.2.1
theorem cm_price (h : CoR K S I T) {t r : Nat} (ht : t < tn T) (hr : r < rn T t) : I (ra K t r) 1 = T 488 (10 * t + r) := (ct_room h ht hr).2.2.2.1
theorem cm_low (h : CoR K S I T) {t r : Nat} (ht : t < tn T) (hr : r < rn T t) : I (ra K t r) 2 = T 487 (10 * t + r) := (ct_room h ht hr).2.2.2.2.1
theorem cm_held (h : CoR K S I T) {t r : Nat} (ht : t < tn T) (hr : r < rn T t) : I (ra K t r) 3 = T 489 (10 * t + r) := (ct_room h ht hr).2.2.2.2.2
end
