/-! a search tree by its intervals: the pure law -/
def lam (key lo hi : Nat → Int) (k c : Nat) : Prop := hi k ≤ lo c ∨ hi c ≤ lo k ∨ (lo k ≤ lo c ∧ hi c ≤ key k) ∨ (key k ≤ lo c ∧ hi c ≤ hi k) ∨ (lo c ≤ lo k ∧ hi k ≤ key c) ∨ (key c ≤ lo k ∧ hi k ≤ hi c)
def TI (A B : Int) (S : Nat → Prop) (key lo hi : Nat → Int) (L R P : Nat → Option Nat) (root : Option Nat) : Prop :=
  (∀ k, S k → A ≤ lo k ∧ lo k < key k ∧ key k < hi k ∧ hi k ≤ B) ∧
  (∀ k c, S k → S c → k ≠ c → lam key lo hi k c) ∧
  (∀ k b, S k → L k = some b → S b ∧ lo b = lo k ∧ hi b = key k ∧ P b = some k) ∧
  (∀ k b, S k → R k = some b → S b ∧ lo b = key k ∧ hi b = hi k ∧ P b = some k) ∧
  (∀ k c, S k → S c → lo k < key c → key c < key k → L k ≠ none) ∧
  (∀ k c, S k → S c → key k < key c → key c < hi k → R k ≠ none) ∧
  (∀ k, S k → P k = none → root = some k) ∧
  (∀ k q, S k → P k = some q → S q ∧ (L q = some k ∨ R q = some k)) ∧
  (∀ r, root = some r → S r ∧ P r = none ∧ lo r = A ∧ hi r = B) ∧
  (root = none → ∀ k, ¬ S k)
theorem TI_rotL {A B : Int} {S : Nat → Prop} {key lo hi : Nat → Int} {L R P L1 R1 P1 : Nat → Option Nat} {root root1 : Option Nat} {p r : Nat} (h : TI A B S key lo hi L R P root) (hp : S p) (hr : R p = some r)
    (hL1 : L1 r = some p) (hL2 : ∀ k, k ≠ r → P p = some k → L k = some p → L1 k = some r) (hL3 : ∀ k, k ≠ r → ¬ (P p = some k ∧ L k = some p) → L1 k = L k)
    (hR1 : R1 p = L r) (hR2 : ∀ k, k ≠ p → P p = some k → ¬ L k = some p → R1 k = some r) (hR3 : ∀ k, k ≠ p → ¬ (P p = some k ∧ ¬ L k = some p) → R1 k = R k)
    (hP1 : P1 p = some r) (hP2 : P1 r = P p) (hP3 : ∀ k, k ≠ p → k ≠ r → L r = some k → P1 k = some p) (hP4 : ∀ k, k ≠ p → k ≠ r → ¬ L r = some k → P1 k = P k)
    (hroot1 : P p = none → root1 = some r) (hroot2 : ∀ q, P p = some q → root1 = root) :
    TI A B S key (va_up lo r (lo p)) (va_up hi p (key r)) L1 R1 P1 root1 := by
  obtain ⟨ha, hb, hc, hd, he, hf, hg, hi1, hj, hk⟩ := h
  obtain ⟨hSr, hlor, hhir, hPr⟩ := hd p r hp hr
  have hap := ha p hp
  have har := ha r hSr
  have hne : p ≠ r := by intro e; subst e; omega
  have lo_r : va_up lo r (lo p) r = lo p := by simp [va_up]
  have lo_n : ∀ k, k ≠ r → va_up lo r (lo p) k = lo k := fun k h => by simp [va_up, h]
  have hi_p : va_up hi p (key r) p = key r := by simp [va_up]
  have hi_n : ∀ k, k ≠ p → va_up hi p (key r) k = hi k := fun k h => by simp [va_up, h]
  -- the parent of p is neither p nor r
  have hq : ∀ q, P p = some q → S q ∧ q ≠ p ∧ q ≠ r ∧ ((L q = some p ∧ lo p = lo q ∧ hi p = key q) ∨ (R q = some p ∧ lo p = key q ∧ hi p = hi q)) := by
    intro q hq
    obtain ⟨hSq, h1⟩ := hi1 p q hp hq
    have haq := ha q hSq
    rcases h1 with h1 | h1
    · have h2 := hc q p hSq h1
      refine ⟨hSq, ?_, ?_, Or.inl ⟨h1, h2.2.1, h2.2.2.1⟩⟩
      · intro e; subst e; omega
      · intro e; subst e; omega
    · have h2 := hd q p hSq h1
      refine ⟨hSq, ?_, ?_, Or.inr ⟨h1, h2.2.1, h2.2.2.1⟩⟩
      · intro e; subst e; omega
      · intro e; subst e; omega
  have hbb : ∀ b, L r = some b → S b ∧ b ≠ p ∧ b ≠ r ∧ lo b = key p ∧ hi b = key r := by
    intro b h1
    have h2 := hc r b hSr h1
    have hab := ha b h2.1
    refine ⟨h2.1, ?_, ?_, by omega, h2.2.2.1⟩
    · intro e; subst e; omega
    · intro e; subst e; omega
  refine ⟨?_, ?_, ?_, ?_, ?_, ?_, ?_, ?_, ?_, ?_⟩
  · intro k hk1
    have := ha k hk1
    by_cases e1 : k = r
    · subst e1; rw [lo_r, hi_n k (Ne.symm hne)]; omega
    · rw [lo_n k e1]
      by_cases e2 : k = p
      · subst e2; rw [hi_p]; omega
      · rw [hi_n k e2]; omega
  · have key9 : ∀ k c, S k → S c → k ≠ c → k ≠ p → k ≠ r → (c = p ∨ c = r) → lam key (va_up lo r (lo p)) (va_up hi p (key r)) k c := by
      intro k c hk1 hc1 hkc k1 k2 hc2
      have a1 := ha k hk1
      have b1 := hb k p hk1 hp k1
      have b2 := hb k r hk1 hSr k2
      unfold lam at b1 b2 ⊢
      rw [lo_n k k2, hi_n k k1]
      rcases hc2 with rfl | rfl
      · rw [lo_n c hne, hi_p]; omega
      · rw [lo_r, hi_n c (Ne.symm hne)]; omega
    have sym : ∀ k c, lam key (va_up lo r (lo p)) (va_up hi p (key r)) k c → lam key (va_up lo r (lo p)) (va_up hi p (key r)) c k := by
      intro k c h1; unfold lam at h1 ⊢; omega
    intro k c hk1 hc1 hkc
    by_cases e1 : k = p ∨ k = r
    · by_cases e2 : c = p ∨ c = r
      · rcases e1 with e1 | e1 <;> rcases e2 with e2 | e2
        · exact absurd (e1.trans e2.symm) hkc
        · subst e1; subst e2
          unfold lam; rw [lo_n k hne, hi_p, lo_r, hi_n c (Ne.symm hne)]; omega
        · subst e1; subst e2
          unfold lam; rw [lo_n c hne, hi_p, lo_r, hi_n k (Ne.symm hne)]; omega
        · exact absurd (e1.trans e2.symm) hkc
      · exact sym _ _ (key9 c k hc1 hk1 (Ne.symm hkc) (fun e => e2 (Or.inl e)) (fun e => e2 (Or.inr e)) e1)
    · have k1 : k ≠ p := fun e => e1 (Or.inl e)
      have k2 : k ≠ r := fun e => e1 (Or.inr e)
      by_cases e2 : c = p ∨ c = r
      · exact key9 k c hk1 hc1 hkc k1 k2 e2
      · have b1 := hb k c hk1 hc1 hkc
        unfold lam at b1 ⊢
        rw [lo_n k k2, hi_n k k1, lo_n c (fun e => e2 (Or.inr e)), hi_n c (fun e => e2 (Or.inl e))]
        exact b1
  · -- left links
    intro k b hk1 hLk
    by_cases e1 : k = r
    · subst e1
      rw [hL1] at hLk; cases hLk
      exact ⟨hp, by rw [lo_n _ hne, lo_r], by rw [hi_p], hP1⟩
    · by_cases e2 : P p = some k ∧ L k = some p
      · rw [hL2 k e1 e2.1 e2.2] at hLk; cases hLk
        obtain ⟨-, q1, q2, q3⟩ := hq k e2.1
        have h2 := hc k p hk1 e2.2
        exact ⟨hSr, by rw [lo_r, lo_n k e1]; exact h2.2.1, by rw [hi_n _ (Ne.symm hne)]; omega, by rw [hP2]; exact e2.1⟩
      · rw [hL3 k e1 e2] at hLk
        have h2 := hc k b hk1 hLk
        have hbr : b ≠ r := by
          intro e; subst e
          have h9 := h2.2.2.2
          rw [hPr] at h9; cases h9
          omega
        have hbp : b ≠ p := by
          intro e; subst e
          exact e2 ⟨h2.2.2.2, hLk⟩
        refine ⟨h2.1, by rw [lo_n b hbr, lo_n k e1]; exact h2.2.1, by rw [hi_n b hbp]; exact h2.2.2.1, ?_⟩
        rw [hP4 b hbp hbr]
        · exact h2.2.2.2
        · intro e
          have h3 := hc r b hSr e
          rw [h2.2.2.2] at h3
          exact e1 (Option.some.inj h3.2.2.2)
  · -- right links
    intro k b hk1 hRk
    by_cases e1 : k = p
    · subst e1
      rw [hR1] at hRk
      obtain ⟨q0, q1, q2, q3, q4⟩ := hbb b hRk
      exact ⟨q0, by rw [lo_n b q2]; exact q3, by rw [hi_n b q1, hi_p]; exact q4, hP3 b q1 q2 hRk⟩
    · by_cases e2 : P p = some k ∧ ¬ L k = some p
      · rw [hR2 k e1 e2.1 e2.2] at hRk; cases hRk
        obtain ⟨-, q1, q2, q3⟩ := hq k e2.1
        rcases q3 with q3 | q3
        · exact absurd q3.1 e2.2
        · exact ⟨hSr, by rw [lo_r]; exact q3.2.1, by rw [hi_n _ (Ne.symm hne), hi_n k e1]; omega, by rw [hP2]; exact e2.1⟩
      · rw [hR3 k e1 e2] at hRk
        have h2 := hd k b hk1 hRk
        have hbr : b ≠ r := by
          intro e; subst e
          have h9 := h2.2.2.2
          rw [hPr] at h9; cases h9
          exact e1 rfl
        have hbp : b ≠ p := by
          intro e; subst e
          refine e2 ⟨h2.2.2.2, fun h9 => ?_⟩
          have h8 := hc k b hk1 h9
          have := ha k hk1
          omega
        refine ⟨h2.1, by rw [lo_n b hbr]; exact h2.2.1, by rw [hi_n b hbp, hi_n k e1]; exact h2.2.2.1, ?_⟩
        rw [hP4 b hbp hbr]
        · exact h2.2.2.2
        · intro e
          have h3 := hc r b hSr e
          have := ha b h2.1
          have h4 := h2.2.2.2
          rw [h3.2.2.2] at h4
          cases h4
          omega
  · intro k c hk1 hc1 h1 h2
    by_cases e1 : k = r
    · subst e1; rw [hL1]; exact fun h => by cases h
    · rw [lo_n k e1] at h1
      by_cases e2 : P p = some k ∧ L k = some p
      · rw [hL2 k e1 e2.1 e2.2]; exact fun h => by cases h
      · rw [hL3 k e1 e2]; exact he k c hk1 hc1 h1 h2
  · intro k c hk1 hc1 h1 h2
    by_cases e1 : k = p
    · subst e1
      rw [hi_p] at h2
      rw [hR1]; exact he r c hSr hc1 (by omega) h2
    · rw [hi_n k e1] at h2
      by_cases e2 : P p = some k ∧ ¬ L k = some p
      · rw [hR2 k e1 e2.1 e2.2]; exact fun h => by cases h
      · rw [hR3 k e1 e2]; exact hf k c hk1 hc1 h1 h2
  · intro k hk1 hPk
    by_cases e1 : k = p
    · subst e1; rw [hP1] at hPk; cases hPk
    · by_cases e2 : k = r
      · subst e2; rw [hP2] at hPk; exact hroot1 hPk
      · by_cases e3 : L r = some k
        · rw [hP3 k e1 e2 e3] at hPk; cases hPk
        · rw [hP4 k e1 e2 e3] at hPk
          have h1 := hg k hk1 hPk
          cases hPp : P p with
          | none => exact absurd (Option.some.inj ((hg p hp hPp).symm.trans h1)) (Ne.symm e1)
          | some q => rw [hroot2 q hPp]; exact h1
  · intro k q hk1 hPk
    by_cases e1 : k = p
    · subst e1; rw [hP1] at hPk; cases hPk
      exact ⟨hSr, Or.inl hL1⟩
    · by_cases e2 : k = r
      · subst e2; rw [hP2] at hPk
        obtain ⟨q0, q1, q2, q3⟩ := hq q hPk
        refine ⟨q0, ?_⟩
        by_cases e3 : L q = some p
        · exact Or.inl (hL2 q q2 hPk e3)
        · exact Or.inr (hR2 q q1 hPk e3)
      · by_cases e3 : L r = some k
        · rw [hP3 k e1 e2 e3] at hPk; cases hPk
          exact ⟨hp, Or.inr (by rw [hR1]; exact e3)⟩
        · rw [hP4 k e1 e2 e3] at hPk
          obtain ⟨q0, q1⟩ := hi1 k q hk1 hPk
          refine ⟨q0, ?_⟩
          rcases q1 with q1 | q1
          · have hqr : q ≠ r := fun e => e3 (by rw [← e]; exact q1)
            refine Or.inl ?_
            rw [hL3 q hqr (fun h9 => e1 (Option.some.inj (q1.symm.trans h9.2)))]; exact q1
          · have hqp : q ≠ p := fun e => e2 (by subst e; exact Option.some.inj (q1.symm.trans hr))
            refine Or.inr ?_
            rw [hR3 q hqp]
            · exact q1
            · intro h9
              rcases (hq q h9.1).2.2.2 with q3 | q3
              · exact h9.2 q3.1
              · exact e1 (Option.some.inj (q1.symm.trans q3.1))
  · intro x hx
    cases hPp : P p with
    | none =>
      rw [hroot1 hPp] at hx; cases hx
      have h1 := hj p (hg p hp hPp)
      exact ⟨hSr, by rw [hP2]; exact hPp, by rw [lo_r]; exact h1.2.2.1, by rw [hi_n _ (Ne.symm hne)]; omega⟩
    | some q =>
      rw [hroot2 q hPp] at hx
      have h1 := hj x hx
      have e1 : x ≠ p := by intro e; subst e; rw [hPp] at h1; cases h1.2.1
      have e2 : x ≠ r := by intro e; subst e; rw [hPr] at h1; cases h1.2.1
      refine ⟨h1.1, ?_, by rw [lo_n x e2]; exact h1.2.2.1, by rw [hi_n x e1]; exact h1.2.2.2⟩
      rw [hP4 x e1 e2]
      · exact h1.2.1
      · intro e
        have h2 := hc r x hSr e
        rw [h1.2.1] at h2
        cases h2.2.2.2
  · intro hx k hk1
    cases hPp : P p with
    | none => rw [hroot1 hPp] at hx; cases hx
    | some q => rw [hroot2 q hPp] at hx; exact hk hx k hk1

theorem TI_mirror {A B : Int} {S : Nat → Prop} {key lo hi : Nat → Int} {L R P : Nat → Option Nat} {root : Option Nat} (h : TI A B S key lo hi L R P root) : TI (-B) (-A) S (fun k => -key k) (fun k => -hi k) (fun k => -lo k) R L P root := by
  obtain ⟨ha, hb, hc, hd, he, hf, hg, hi1, hj, hk⟩ := h
  refine ⟨fun k h1 => ?_, fun k c h1 h2 h3 => ?_, fun k b h1 h2 => ?_, fun k b h1 h2 => ?_, fun k c h1 h2 h3 h4 => ?_, fun k c h1 h2 h3 h4 => ?_, hg, fun k q h1 h2 => ?_, fun r h1 => ?_, hk⟩
  · have := ha k h1; dsimp only; omega
  · have := hb k c h1 h2 h3; unfold lam at this ⊢; dsimp only; omega
  · have := hd k b h1 h2; exact ⟨this.1, by dsimp only; omega, by dsimp only; omega, this.2.2.2⟩
  · have := hc k b h1 h2; exact ⟨this.1, by dsimp only; omega, by dsimp only; omega, this.2.2.2⟩
  · exact hf k c h1 h2 (by dsimp only at h3 h4; omega) (by dsimp only at h3 h4; omega)
  · exact he k c h1 h2 (by dsimp only at h3 h4; omega) (by dsimp only at h3 h4; omega)
  · have := hi1 k q h1 h2; exact ⟨this.1, this.2.symm⟩
  · have := hj r h1; exact ⟨this.1, this.2.1, by dsimp only; omega, by dsimp only; omega⟩
theorem TI_rotR {A B : Int} {S : Nat → Prop} {key lo hi : Nat → Int} {L R P L1 R1 P1 : Nat → Option Nat} {root root1 : Option Nat} {p r : Nat} (h : TI A B S key lo hi L R P root) (hp : S p) (hr : L p = some r)
    (hL1 : R1 r = some p) (hL2 : ∀ k, k ≠ r → P p = some k → R k = some p → R1 k = some r) (hL3 : ∀ k, k ≠ r → ¬ (P p = some k ∧ R k = some p) → R1 k = R k)
    (hR1 : L1 p = R r) (hR2 : ∀ k, k ≠ p → P p = some k → ¬ R k = some p → L1 k = some r) (hR3 : ∀ k, k ≠ p → ¬ (P p = some k ∧ ¬ R k = some p) → L1 k = L k)
    (hP1 : P1 p = some r) (hP2 : P1 r = P p) (hP3 : ∀ k, k ≠ p → k ≠ r → R r = some k → P1 k = some p) (hP4 : ∀ k, k ≠ p → k ≠ r → ¬ R r = some k → P1 k = P k)
    (hroot1 : P p = none → root1 = some r) (hroot2 : ∀ q, P p = some q → root1 = root) :
    TI A B S key (va_up lo p (key r)) (va_up hi r (hi p)) L1 R1 P1 root1 := by
  have h1 := TI_mirror (TI_rotL (TI_mirror h) hp hr hL1 hL2 hL3 hR1 hR2 hR3 hP1 hP2 hP3 hP4 hroot1 hroot2)
  have e1 : (fun k => - - key k) = key := by funext k; omega
  have e2 : (fun k => -(va_up (fun k => -lo k) p (-key r)) k) = va_up lo p (key r) := by funext k; unfold va_up; split <;> (try dsimp only) <;> omega
  have e3 : (fun k => -(va_up (fun k => -hi k) r (-hi p)) k) = va_up hi r (hi p) := by funext k; unfold va_up; split <;> (try dsimp only) <;> omega
  rw [Int.neg_neg, Int.neg_neg, e1, e2, e3] at h1
  exact h1
/-- on the way down to a gap: who has the gap in his interval has a child that way, or lies in the interval at hand -/
def TD (S : Nat → Prop) (key lo hi : Nat → Int) (L R : Nat → Option Nat) (κ a b : Int) : Prop := ∀ k, S k → lo k < κ → κ < hi k → (lo k ≤ a ∧ b ≤ key k ∧ L k ≠ none) ∨ (key k ≤ a ∧ b ≤ hi k ∧ R k ≠ none) ∨ (a ≤ lo k ∧ hi k ≤ b)
theorem TD_root {A B : Int} {S : Nat → Prop} {key lo hi : Nat → Int} {L R P : Nat → Option Nat} {root : Option Nat} (h : TI A B S key lo hi L R P root) (κ : Int) : TD S key lo hi L R κ A B :=
  fun k hk _ _ => Or.inr (Or.inr ⟨(h.1 k hk).1, (h.1 k hk).2.2.2⟩)
theorem TD_left {A B : Int} {S : Nat → Prop} {key lo hi : Nat → Int} {L R P : Nat → Option Nat} {root : Option Nat} {t : Nat} {κ : Int} (h : TI A B S key lo hi L R P root) (ht : S t) (hD : TD S key lo hi L R κ (lo t) (hi t)) (h2 : κ < key t) (hL : L t ≠ none) : TD S key lo hi L R κ (lo t) (key t) := by
  intro k hk k1 k2
  have at1 := h.1 t ht
  have ak := h.1 k hk
  by_cases e : k = t
  · subst e; exact Or.inl ⟨by omega, by omega, hL⟩
  · have b1 := h.2.1 k t hk ht e
    rcases hD k hk k1 k2 with d | d | d
    · exact Or.inl ⟨d.1, by omega, d.2.2⟩
    · exact Or.inr (Or.inl ⟨d.1, by omega, d.2.2⟩)
    · unfold lam at b1
      exact Or.inr (Or.inr ⟨d.1, by omega⟩)
theorem TD_mirror {S : Nat → Prop} {key lo hi : Nat → Int} {L R : Nat → Option Nat} {κ a b : Int} (h : TD S key lo hi L R κ a b) : TD S (fun k => -key k) (fun k => -hi k) (fun k => -lo k) R L (-κ) (-b) (-a) := by
  intro k hk k1 k2
  dsimp only at k1 k2 ⊢
  rcases h k hk (by omega) (by omega) with d | d | d
  · exact Or.inr (Or.inl ⟨by omega, by omega, d.2.2⟩)
  · exact Or.inl ⟨by omega, by omega, d.2.2⟩
  · exact Or.inr (Or.inr ⟨by omega, by omega⟩)
theorem TD_right {A B : Int} {S : Nat → Prop} {key lo hi : Nat → Int} {L R P : Nat → Option Nat} {root : Option Nat} {t : Nat} {κ : Int} (h : TI A B S key lo hi L R P root) (ht : S t) (hD : TD S key lo hi L R κ (lo t) (hi t)) (h2 : key t < κ) (hR : R t ≠ none) : TD S key lo hi L R κ (key t) (hi t) := by
  have h1 := TD_mirror (TD_left (TI_mirror h) ht (TD_mirror hD) (by (try dsimp only); omega) hR)
  have e1 : (fun k => - - key k) = key := by funext k; omega
  have e2 : (fun k => - - lo k) = lo := by funext k; omega
  have e3 : (fun k => - - hi k) = hi := by funext k; omega
  simp only [Int.neg_neg] at h1
  exact h1
theorem TI_insL {A B : Int} {S : Nat → Prop} {key lo hi : Nat → Int} {L R P L1 R1 P1 : Nat → Option Nat} {root : Option Nat} {t n : Nat} (h : TI A B S key lo hi L R P root) (ht : S t) (hn : ¬ S n) (hL : L t = none) (hD : TD S key lo hi L R (key n) (lo t) (hi t)) (h1 : lo t < key n) (h2 : key n < key t)
    (hL1 : L1 t = some n) (hL2 : L1 n = none) (hL3 : ∀ k, k ≠ t → k ≠ n → L1 k = L k) (hR1 : R1 n = none) (hR2 : ∀ k, k ≠ n → R1 k = R k) (hP1 : P1 n = some t) (hP2 : ∀ k, k ≠ n → P1 k = P k) :
    TI A B (fun k => S k ∨ k = n) key (va_up lo n (lo t)) (va_up hi n (key t)) L1 R1 P1 root := by
  obtain ⟨ha, hb, hc, hd, he, hf, hg, hi1, hj, hk⟩ := h
  have hat := ha t ht
  have htn : t ≠ n := fun e => hn (e ▸ ht)
  have ne : ∀ k, S k → k ≠ n := fun k h9 e => hn (e ▸ h9)
  have lo_n : ∀ k, k ≠ n → va_up lo n (lo t) k = lo k := fun k h9 => by simp [va_up, h9]
  have hi_n : ∀ k, k ≠ n → va_up hi n (key t) k = hi k := fun k h9 => by simp [va_up, h9]
  have lo_s : va_up lo n (lo t) n = lo t := by simp [va_up]
  have hi_s : va_up hi n (key t) n = key t := by simp [va_up]
  -- no key of S in the gap
  have gap : ∀ c, S c → ¬ (lo t < key c ∧ key c < key t) := fun c hc9 h9 => he t c ht hc9 h9.1 h9.2 hL
  -- who has the gap in his interval has it in a half
  have half : ∀ k, S k → lo k < key n → key n < hi k → (lo k ≤ lo t ∧ key t ≤ key k ∧ (k ≠ t → L k ≠ none)) ∨ (key k ≤ lo t ∧ key t ≤ hi k ∧ R k ≠ none) := by
    intro k hk9 k1 k2
    have ak := ha k hk9
    by_cases e : k = t
    · subst e; exact Or.inl ⟨by omega, by omega, fun h9 => absurd rfl h9⟩
    · rcases hD k hk9 k1 k2 with d | d | d
      · exact Or.inl ⟨d.1, by omega, fun _ => d.2.2⟩
      · exact Or.inr ⟨d.1, by omega, d.2.2⟩
      · exfalso
        have b1 := hb k t hk9 ht e
        unfold lam at b1
        exact gap k hk9 (by omega)
  refine ⟨?_, ?_, ?_, ?_, ?_, ?_, ?_, ?_, ?_, ?_⟩
  · intro k hk1
    rcases hk1 with hk1 | rfl
    · rw [lo_n k (ne k hk1), hi_n k (ne k hk1)]; exact ha k hk1
    · rw [lo_s, hi_s]; omega
  · have key9 : ∀ k, S k → lam key (va_up lo n (lo t)) (va_up hi n (key t)) k n := by
      intro k hk9
      have ak := ha k hk9
      have h3 := half k hk9
      have h4 := gap k hk9
      unfold lam
      rw [lo_n k (ne k hk9), hi_n k (ne k hk9), lo_s, hi_s]
      by_cases c1 : lo k < key n ∧ key n < hi k
      · rcases h3 c1.1 c1.2 with d | d <;> omega
      · by_cases e : k = t
        · subst e; omega
        · have b1 := hb k t hk9 ht e
          unfold lam at b1
          omega
    have sym : ∀ k c, lam key (va_up lo n (lo t)) (va_up hi n (key t)) k c → lam key (va_up lo n (lo t)) (va_up hi n (key t)) c k := by
      intro k c h9; unfold lam at h9 ⊢; omega
    intro k c hk1 hc1 hkc
    rcases hk1 with hk1 | rfl
    · rcases hc1 with hc1 | rfl
      · have := hb k c hk1 hc1 hkc
        unfold lam at this ⊢
        rw [lo_n k (ne k hk1), hi_n k (ne k hk1), lo_n c (ne c hc1), hi_n c (ne c hc1)]; exact this
      · exact key9 k hk1
    · rcases hc1 with hc1 | rfl
      · exact sym _ _ (key9 c hc1)
      · exact absurd rfl hkc
  · intro k b hk1 hLk
    rcases hk1 with hk1 | rfl
    · by_cases e : k = t
      · subst e
        rw [hL1] at hLk; cases hLk
        exact ⟨Or.inr rfl, by rw [lo_s, lo_n k htn], hi_s, hP1⟩
      · rw [hL3 k e (ne k hk1)] at hLk
        have := hc k b hk1 hLk
        exact ⟨Or.inl this.1, by rw [lo_n b (ne b this.1), lo_n k (ne k hk1)]; exact this.2.1, by rw [hi_n b (ne b this.1)]; exact this.2.2.1, by rw [hP2 b (ne b this.1)]; exact this.2.2.2⟩
    · rw [hL2] at hLk; cases hLk
  · intro k b hk1 hRk
    rcases hk1 with hk1 | rfl
    · rw [hR2 k (ne k hk1)] at hRk
      have := hd k b hk1 hRk
      exact ⟨Or.inl this.1, by rw [lo_n b (ne b this.1)]; exact this.2.1, by rw [hi_n b (ne b this.1), hi_n k (ne k hk1)]; exact this.2.2.1, by rw [hP2 b (ne b this.1)]; exact this.2.2.2⟩
    · rw [hR1] at hRk; cases hRk
  · intro k c hk1 hc1 c1 c2
    rcases hk1 with hk1 | rfl
    · rw [lo_n k (ne k hk1)] at c1
      by_cases e : k = t
      · subst e; rw [hL1]; exact fun h9 => by cases h9
      · rw [hL3 k e (ne k hk1)]
        rcases hc1 with hc1 | rfl
        · exact he k c hk1 hc1 c1 c2
        · have ak := ha k hk1
          rcases half k hk1 c1 (by omega) with d | d
          · exact d.2.2 e
          · omega
    · rw [lo_s] at c1
      rcases hc1 with hc1 | rfl
      · exact absurd ⟨c1, by omega⟩ (gap c hc1)
      · omega
  · intro k c hk1 hc1 c1 c2
    rcases hk1 with hk1 | rfl
    · rw [hi_n k (ne k hk1)] at c2
      rw [hR2 k (ne k hk1)]
      rcases hc1 with hc1 | rfl
      · exact hf k c hk1 hc1 c1 c2
      · have ak := ha k hk1
        rcases half k hk1 (by omega) c2 with d | d
        · omega
        · exact d.2.2
    · rw [hi_s] at c2
      rcases hc1 with hc1 | rfl
      · exact absurd ⟨by omega, c2⟩ (gap c hc1)
      · omega
  · intro k hk1 hPk
    rcases hk1 with hk1 | rfl
    · rw [hP2 k (ne k hk1)] at hPk; exact hg k hk1 hPk
    · rw [hP1] at hPk; cases hPk
  · intro k q hk1 hPk
    rcases hk1 with hk1 | rfl
    · rw [hP2 k (ne k hk1)] at hPk
      obtain ⟨q0, q1⟩ := hi1 k q hk1 hPk
      refine ⟨Or.inl q0, ?_⟩
      rcases q1 with q1 | q1
      · have e : q ≠ t := fun e => by rw [e, hL] at q1; cases q1
        exact Or.inl (by rw [hL3 q e (ne q q0)]; exact q1)
      · exact Or.inr (by rw [hR2 q (ne q q0)]; exact q1)
    · rw [hP1] at hPk; cases hPk
      exact ⟨Or.inl ht, Or.inl hL1⟩
  · intro r hr
    have := hj r hr
    exact ⟨Or.inl this.1, by rw [hP2 r (ne r this.1)]; exact this.2.1, by rw [lo_n r (ne r this.1)]; exact this.2.2.1, by rw [hi_n r (ne r this.1)]; exact this.2.2.2⟩
  · intro hx k hk1
    exact absurd ht (hk hx t)
theorem TI_insR {A B : Int} {S : Nat → Prop} {key lo hi : Nat → Int} {L R P L1 R1 P1 : Nat → Option Nat} {root : Option Nat} {t n : Nat} (h : TI A B S key lo hi L R P root) (ht : S t) (hn : ¬ S n) (hR : R t = none) (hD : TD S key lo hi L R (key n) (lo t) (hi t)) (h1 : key t < key n) (h2 : key n < hi t)
    (hR1 : R1 t = some n) (hR2 : R1 n = none) (hR3 : ∀ k, k ≠ t → k ≠ n → R1 k = R k) (hL1 : L1 n = none) (hL2 : ∀ k, k ≠ n → L1 k = L k) (hP1 : P1 n = some t) (hP2 : ∀ k, k ≠ n → P1 k = P k) :
    TI A B (fun k => S k ∨ k = n) key (va_up lo n (key t)) (va_up hi n (hi t)) L1 R1 P1 root := by
  have h9 := TI_mirror (TI_insL (n := n) (TI_mirror h) ht hn hR (TD_mirror hD) (by (try dsimp only); omega) (by (try dsimp only); omega) hR1 hR2 hR3 hL1 hL2 hP1 hP2)
  have e1 : (fun k => - - key k) = key := by funext k; omega
  have e2 : (fun k => -(va_up (fun k => -lo k) n (-key t)) k) = va_up lo n (key t) := by funext k; unfold va_up; split <;> (try dsimp only) <;> omega
  have e3 : (fun k => -(va_up (fun k => -hi k) n (-hi t)) k) = va_up hi n (hi t) := by funext k; unfold va_up; split <;> (try dsimp only) <;> omega
  rw [Int.neg_neg, Int.neg_neg, e1, e2, e3] at h9
  exact h9
theorem TI_one {A B : Int} {S : Nat → Prop} {key lo hi : Nat → Int} {L R P L1 R1 P1 : Nat → Option Nat} {n : Nat} (h : TI A B S key lo hi L R P none) (hA : A < key n) (hB : key n < B) (hL : L1 n = none) (hR : R1 n = none) (hP : P1 n = none) : TI A B (fun k => S k ∨ k = n) key (va_up lo n A) (va_up hi n B) L1 R1 P1 (some n) := by
  have hk : ∀ k, ¬ S k := h.2.2.2.2.2.2.2.2.2 rfl
  have e : ∀ k, (S k ∨ k = n) → k = n := fun k h9 => h9.elim (fun z => absurd z (hk k)) id
  have lo_s : va_up lo n A n = A := by simp [va_up]
  have hi_s : va_up hi n B n = B := by simp [va_up]
  refine ⟨fun k h1 => ?_, fun k c h1 h2 h3 => absurd ((e k h1).trans (e c h2).symm) h3, fun k b h1 h2 => ?_, fun k b h1 h2 => ?_, fun k c h1 h2 h3 h4 => ?_, fun k c h1 h2 h3 h4 => ?_, fun k h1 _ => by rw [e k h1], fun k q h1 h2 => ?_, fun r h1 => ?_, fun h1 => by cases h1⟩
  · have := e k h1; subst this; rw [lo_s, hi_s]; omega
  · have := e k h1; subst this; rw [hL] at h2; cases h2
  · have := e k h1; subst this; rw [hR] at h2; cases h2
  · have e1 := e k h1; have e2 := e c h2; subst e1; subst e2; omega
  · have e1 := e k h1; have e2 := e c h2; subst e1; subst e2; omega
  · have := e k h1; subst this; rw [hP] at h2; cases h2
  · cases h1; exact ⟨Or.inr rfl, hP, lo_s, hi_s⟩
