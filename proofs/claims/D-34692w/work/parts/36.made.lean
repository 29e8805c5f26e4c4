set_option maxRecDepth 100000
/-! the component: policies, tariffs and changes made -/
theorem XP.kp {Γ : GP} {G G1 : GH} {x : Nat} {σ : MS} {A : Nat → Nat → Nat} {T : Nat × Nat → Prop} (h : XP Γ G x σ A) (hk : gK T G G1) (t0 : ¬ T (0, 0)) (t15 : ¬ T (15, 0)) (t1 : ∀ i, i < 3 → ¬ T (1, i)) (t2 : ∀ i, i < 3 → ¬ T (2, i)) (t51 : ¬ T (51, 0)) (t3 : ∀ i, i < σ.1 0 → ¬ T (3, i) ∧ ¬ T (4, i) ∧ ¬ T (5, i)) (t10 : ∀ k, k < σ.1 2 → ¬ T (10, k) ∧ ¬ T (11, k) ∧ ¬ T (12, k)) (tb : ∀ t, T t → t.1 ≠ 13 ∧ t.1 ≠ 50) (t14 : ∀ j, j < σ.1 1 → ¬ T (14, j)) : XP Γ G1 x σ A := by
  obtain ⟨⟨rf, h1, h2⟩, ⟨c0, c1, c2, hc, a0, a1, a2⟩, h3, h4, h5⟩ := h
  refine ⟨⟨rf, hk _ _ h1 t0, hk _ _ h2 t15⟩, ⟨c0, c1, c2, hc, a0.keep hk (t1 _ (by decide)) (t2 _ (by decide)) t51, a1.keep hk (t1 _ (by decide)) (t2 _ (by decide)) t51, a2.keep hk (t1 _ (by decide)) (t2 _ (by decide)) t51⟩, fun i hi => ?_, fun k hk9 => ?_, fun j hj => hk _ _ (h5 j hj) (t14 j hj)⟩
  · obtain ⟨b1, vw, b2, b3⟩ := h3 i hi
    exact ⟨hk _ _ b1 (t3 i hi).1, vw, b2.keep hk (t3 i hi).2.1 (fun k hS => (t10 k hS.1).2.1) tb, fun v hv => hk _ _ (b3 v hv) (t3 i hi).2.2⟩
  · obtain ⟨b1, b2⟩ := h4 k hk9
    exact ⟨hk _ _ b1 (t10 k hk9).1, b2.keep hk (t10 k hk9).2.2⟩
def tauO (σ : MS) (b : Int32) : MS := (fun r => if r = 0 then σ.1 0 + 1 else σ.1 r, setr (setr σ.2 0 (va_up (σ.2 0) (σ.1 0) b)) 1 (va_up (σ.2 1) (σ.1 0) 0))
def tauW (σ : MS) (f w fr : Int32) : MS := (fun r => if r = 1 then σ.1 1 + 1 else σ.1 r, setr (setr (setr σ.2 2 (va_up (σ.2 2) (σ.1 1) f)) 3 (va_up (σ.2 3) (σ.1 1) w)) 4 (va_up (σ.2 4) (σ.1 1) fr))
def tauT (σ : MS) (p kd wh fr nu : Int32) : MS := (fun r => if r = 2 then σ.1 2 + 1 else σ.1 r, fun r => if r = 5 then va_up (σ.2 5) (σ.1 2) p else if r = 6 then va_up (σ.2 6) (σ.1 2) kd else if r = 7 then va_up (σ.2 7) (σ.1 2) wh else if r = 8 then va_up (σ.2 8) (σ.1 2) fr else if r = 9 then va_up (σ.2 9) (σ.1 2) nu else if r = 10 then va_up (σ.2 10) (σ.1 2) (σ.2 12 0) else if r = 11 then va_up (σ.2 11) (σ.1 2) (-1) else σ.2 r)
theorem AL.up {Γ : GP} {G : GH} {al i n cap e : Nat} {f : Nat → Nat} (h : AL Γ G al i (n + 1) cap (va_up (fun j => some (f j)) n (some e))) : AL Γ G al i (n + 1) cap (fun j => some (va_up f n e j)) := by
  refine h.cong (fun j hj => ?_)
  by_cases e1 : j = n
  · subst e1; rw [va_up_self, va_up_self]
  · rw [va_up_ne _ _ e1, va_up_ne _ _ e1]
theorem tA_ne {i : Nat} {t : Nat × Nat} (h1 : t ≠ (1, i)) (h2 : t ≠ (2, i)) : ¬ tA i t := fun h => h.elim h1 h2
theorem tA_ne1 {i a j : Nat} (h1 : a ≠ 1) (h2 : a ≠ 2) : ¬ tA i (a, j) := tA_ne (fun h => h1 (congrArg Prod.fst h)) (fun h => h2 (congrArg Prod.fst h))
theorem tA_ne2 {i a j : Nat} (h : j ≠ i) : ¬ tA i (a, j) := tA_ne (fun e => h (congrArg Prod.snd e)) (fun e => h (congrArg Prod.snd e))
theorem tA_b {i : Nat} : ∀ t : Nat × Nat, tA i t → t.1 ≠ 13 ∧ t.1 ≠ 50 := by
  intro t h
  rcases h with h | h <;> rw [show t = _ from h] <;> exact ⟨by simp, by simp⟩
theorem Sp_no {σ : MS} (hW : WF σ) {b : Int32} : Sp (tauO σ b) (σ.1 0) = fun _ => False := by
  funext k
  apply propext
  refine ⟨fun h => ?_, fun h => h.elim⟩
  obtain ⟨⟨p, hp, hq⟩, -⟩ := hW.2.2.2.2.2.2 k h.1
  have h2 : σ.2 5 k = nI (σ.1 0) := h.2
  have h4 := hW.1
  have := (nI_eq (by omega) (by omega)).mp (hq.symm.trans h2)
  omega
theorem XP.addp {Γ : GP} {G G1 : GH} {x q qt c0 : Nat} {σ : MS} {A : Nat → Nat → Nat} {b : Int32} (hW : WF σ) (h : XP Γ G x σ A) (hk : gK (tA 0) G G1) (hA : AL Γ G1 (A 0 0) 0 (σ.1 0 + 1) c0 (va_up (fun i => some (A 2 i)) (σ.1 0) (some q))) (hc0 : c0 ≤ 1000) (hq : G1 q = some ((3, σ.1 0), .inr (2, [.int b, .int 0, .ref qt]))) (ht : G1 qt = some (TMc (σ.1 0) none none 0 0)) :
    XP Γ G1 x (tauO σ b) (setr (setr A 2 (va_up (A 2) (σ.1 0) q)) 3 (va_up (A 3) (σ.1 0) qt)) := by
  obtain ⟨⟨rf, h1, h2⟩, ⟨d0, c1, c2, hc, a0, a1, a2⟩, h3, h4, h5⟩ := h
  have n4 := hW.1
  refine ⟨⟨rf, hk _ _ h1 (tA_ne1 (by decide) (by decide)), hk _ _ h2 (tA_ne1 (by decide) (by decide))⟩, ⟨c0, c1, c2, ⟨hc0, hc.2⟩, hA.up, a1.keep hk (tA_ne2 (by decide)) (tA_ne2 (by decide)) (tA_ne1 (by decide) (by decide)), a2.keep hk (tA_ne2 (by decide)) (tA_ne2 (by decide)) (tA_ne1 (by decide) (by decide))⟩, fun i hi => ?_, fun k hk9 => ?_, fun j hj => hk _ _ (h5 j hj) (tA_ne1 (by decide) (by decide))⟩
  · have hi2 : i < σ.1 0 + 1 := hi
    show G1 (va_up (A 2) (σ.1 0) q i) = some ((3, i), .inr (2, [.int (va_up (σ.2 0) (σ.1 0) b i), .int (va_up (σ.2 1) (σ.1 0) 0 i), .ref (va_up (A 3) (σ.1 0) qt i)])) ∧ ∃ vw, TM G1 (va_up (A 3) (σ.1 0) qt i) i vw (Sp (tauO σ b) i) (A 5) (A 6) (A 4) (kvk σ) ∧ ∀ v, vw = some v → G1 v = some ((5, i), .inr (11, [.ref (va_up (A 3) (σ.1 0) qt i)]))
    by_cases hin : i = σ.1 0
    · subst hin
      rw [va_up_self, va_up_self, va_up_self, va_up_self]
      exact ⟨hq, none, by rw [Sp_no hW]; exact TM.init ht, fun v hv => by cases hv⟩
    · rw [va_up_ne _ _ hin, va_up_ne _ _ hin, va_up_ne _ _ hin, va_up_ne _ _ hin]
      obtain ⟨b1, vw, b2, b3⟩ := h3 i (by omega)
      exact ⟨hk _ _ b1 (tA_ne1 (by decide) (by decide)), vw, b2.keep hk (tA_ne1 (by decide) (by decide)) (fun k _ => tA_ne1 (by decide) (by decide)) tA_b, fun v hv => hk _ _ (b3 v hv) (tA_ne1 (by decide) (by decide))⟩
  · obtain ⟨b1, b2⟩ := h4 k hk9
    obtain ⟨⟨p, hp, hpq⟩, -⟩ := hW.2.2.2.2.2.2 k hk9
    refine ⟨?_, b2.keep hk (tA_ne1 (by decide) (by decide))⟩
    show G1 (A 4 k) = some ((10, k), .inr (4, [.int (nI k), .ref (va_up (A 2) (σ.1 0) q (σ.2 5 k).toNatClampNeg), .int (σ.2 8 k), .int (σ.2 10 k), .ref (A 7 k), .int (tbk σ k)]))
    rw [va_up_ne _ _ (by rw [hpq, nI_clamp (by omega)]; omega)]
    exact hk _ _ b1 (tA_ne1 (by decide) (by decide))
theorem XP.addt {Γ : GP} {G G1 : GH} {x q c2 : Nat} {σ : MS} {A : Nat → Nat → Nat} {f w fr : Int32} (h : XP Γ G x σ A) (hk : gK (tA 2) G G1) (hA : AL Γ G1 (A 0 2) 2 (σ.1 1 + 1) c2 (va_up (fun i => some (A 8 i)) (σ.1 1) (some q))) (hc2 : c2 ≤ 1000) (hq : G1 q = some ((14, σ.1 1), .inr (3, [.int f, .int w, .int fr]))) :
    XP Γ G1 x (tauW σ f w fr) (setr A 8 (va_up (A 8) (σ.1 1) q)) := by
  obtain ⟨⟨rf, h1, h2⟩, ⟨c0, c1, d2, hc, a0, a1, a2⟩, h3, h4, h5⟩ := h
  refine ⟨⟨rf, hk _ _ h1 (tA_ne1 (by decide) (by decide)), hk _ _ h2 (tA_ne1 (by decide) (by decide))⟩, ⟨c0, c1, c2, ⟨hc.1, hc.2.1, hc2⟩, a0.keep hk (tA_ne2 (by decide)) (tA_ne2 (by decide)) (tA_ne1 (by decide) (by decide)), a1.keep hk (tA_ne2 (by decide)) (tA_ne2 (by decide)) (tA_ne1 (by decide) (by decide)), hA.up⟩, fun i hi => ?_, fun k hk9 => ?_, fun j hj => ?_⟩
  · obtain ⟨b1, vw, b2, b3⟩ := h3 i hi
    exact ⟨hk _ _ b1 (tA_ne1 (by decide) (by decide)), vw, b2.keep hk (tA_ne1 (by decide) (by decide)) (fun k _ => tA_ne1 (by decide) (by decide)) tA_b, fun v hv => hk _ _ (b3 v hv) (tA_ne1 (by decide) (by decide))⟩
  · obtain ⟨b1, b2⟩ := h4 k hk9
    exact ⟨hk _ _ b1 (tA_ne1 (by decide) (by decide)), b2.keep hk (tA_ne1 (by decide) (by decide))⟩
  · have hj2 : j < σ.1 1 + 1 := hj
    show G1 (va_up (A 8) (σ.1 1) q j) = some ((14, j), .inr (3, [.int (va_up (σ.2 2) (σ.1 1) f j), .int (va_up (σ.2 3) (σ.1 1) w j), .int (va_up (σ.2 4) (σ.1 1) fr j)]))
    by_cases hin : j = σ.1 1
    · subst hin
      rw [va_up_self, va_up_self, va_up_self, va_up_self]
      exact hq
    · rw [va_up_ne _ _ hin, va_up_ne _ _ hin, va_up_ne _ _ hin, va_up_ne _ _ hin]
      exact hk _ _ (h5 j (by omega)) (tA_ne1 (by decide) (by decide))
theorem Sp_add {σ : MS} {i j : Nat} {kd wh fr nu : Int32} (hi : i < 4) (hj : j < 4) (hji : j ≠ i) : Sp (tauT σ (nI i) kd wh fr nu) j = Sp σ j := by
  funext k
  apply propext
  show (k < σ.1 2 + 1 ∧ va_up (σ.2 5) (σ.1 2) (nI i) k = nI j) ↔ (k < σ.1 2 ∧ σ.2 5 k = nI j)
  by_cases hk : k = σ.1 2
  · subst hk
    rw [va_up_self]
    refine ⟨fun h => ?_, fun h => absurd h.1 (Nat.lt_irrefl _)⟩
    exact absurd ((nI_eq (by omega) (by omega)).mp h.2).symm hji
  · rw [va_up_ne _ _ hk]
    exact ⟨fun h => ⟨by omega, h.2⟩, fun h => ⟨by omega, h.2⟩⟩
theorem Sp_adi {σ : MS} {i : Nat} {kd wh fr nu : Int32} : Sp (tauT σ (nI i) kd wh fr nu) i = fun k => Sp σ i k ∨ k = σ.1 2 := by
  funext k
  apply propext
  show (k < σ.1 2 + 1 ∧ va_up (σ.2 5) (σ.1 2) (nI i) k = nI i) ↔ ((k < σ.1 2 ∧ σ.2 5 k = nI i) ∨ k = σ.1 2)
  by_cases hk : k = σ.1 2
  · subst hk
    rw [va_up_self]
    exact ⟨fun _ => Or.inr rfl, fun _ => ⟨by omega, rfl⟩⟩
  · rw [va_up_ne _ _ hk]
    exact ⟨fun h => Or.inl ⟨by omega, h.2⟩, fun h => h.elim (fun h => ⟨by omega, h.2⟩) (fun h => absurd h hk)⟩
theorem kvk_add {σ : MS} {p kd wh fr nu : Int32} {k : Nat} (hk : k < σ.1 2) : kvk (tauT σ p kd wh fr nu) k = kvk σ k := by
  show 100 * va_up (σ.2 8) (σ.1 2) fr k + nI k = 100 * σ.2 8 k + nI k
  rw [va_up_ne _ _ (by omega)]
/-- what telling touches -/
def tTl (σ : MS) (i : Nat) (t : Nat × Nat) : Prop := tA 1 t ∨ tT i (fun k => Sp σ i k ∨ k = σ.1 2) t
theorem tTl_ne {σ : MS} {i a j : Nat} (h1 : a ≠ 1) (h2 : a ≠ 2) (h3 : a ≠ 4) (h4 : a ≠ 11) : ¬ tTl σ i (a, j) := by
  rintro (h | h | ⟨k, -, h⟩)
  · exact tA_ne1 h1 h2 h
  · exact h3 (congrArg Prod.fst h)
  · exact h4 (congrArg Prod.fst h)
theorem XP.addc {Γ : GP} {G G1 : GH} {x i q b kb ef c1 : Nat} {vw : Option Nat} {σ : MS} {A : Nat → Nat → Nat} {kd wh fr nu : Int32} (hW : WF σ) (h : XP Γ G x σ A) (hi : i < σ.1 0) (hk : gK (tTl σ i) G G1) (hA : AL Γ G1 (A 0 1) 1 (σ.1 2 + 1) c1 (va_up (fun k => some (A 4 k)) (σ.1 2) (some b))) (hc1 : c1 ≤ 1000)
    (hT : TM G1 (A 3 i) i vw (fun k => Sp σ i k ∨ k = σ.1 2) (va_up (A 5) (σ.1 2) q) (va_up (A 6) (σ.1 2) kb) (va_up (A 4) (σ.1 2) b) (kvk (tauT σ (nI i) kd wh fr nu))) (hv : ∀ v, vw = some v → G1 v = some ((5, i), .inr (11, [.ref (A 3 i)])))
    (hb : G1 b = some ((10, σ.1 2), .inr (4, [.int (nI (σ.1 2)), .ref (A 2 i), .int fr, .int (σ.2 12 0), .ref ef, .int 2147483647]))) (hE : EF Γ G1 ef (σ.1 2) kd wh nu) :
    XP Γ G1 x (tauT σ (nI i) kd wh fr nu) (setr (setr (setr (setr A 4 (va_up (A 4) (σ.1 2) b)) 5 (va_up (A 5) (σ.1 2) q)) 6 (va_up (A 6) (σ.1 2) kb)) 7 (va_up (A 7) (σ.1 2) ef)) := by
  obtain ⟨⟨rf, h1, h2⟩, ⟨c0, d1, c2, hc, a0, a1, a2⟩, h3, h4, h5⟩ := h
  have n4 := hW.1
  have nn : ∀ a j : Nat, a ≠ 1 → a ≠ 2 → a ≠ 4 → a ≠ 11 → ¬ tTl σ i (a, j) := fun a j b1 b2 b3 b4 => tTl_ne b1 b2 b3 b4
  have n12 : ∀ a j : Nat, (a = 1 ∨ a = 2) → j ≠ 1 → ¬ tTl σ i (a, j) := by
    rintro a j ha hj (h | h | ⟨k, -, h⟩)
    · exact tA_ne2 hj h
    · have := congrArg Prod.fst h; dsimp only at this; omega
    · have := congrArg Prod.fst h; dsimp only at this; omega
  refine ⟨⟨rf, hk _ _ h1 (nn _ _ (by decide) (by decide) (by decide) (by decide)), hk _ _ h2 (nn _ _ (by decide) (by decide) (by decide) (by decide))⟩, ⟨c0, c1, c2, ⟨hc.1, hc1, hc.2.2⟩, a0.keep hk (n12 _ _ (Or.inl rfl) (by decide)) (n12 _ _ (Or.inr rfl) (by decide)) (nn _ _ (by decide) (by decide) (by decide) (by decide)), hA.up, a2.keep hk (n12 _ _ (Or.inl rfl) (by decide)) (n12 _ _ (Or.inr rfl) (by decide)) (nn _ _ (by decide) (by decide) (by decide) (by decide))⟩, fun j hj => ?_, fun k hk9 => ?_, fun j hj => hk _ _ (h5 j hj) (nn _ _ (by decide) (by decide) (by decide) (by decide))⟩
  · have hj : j < σ.1 0 := hj
    obtain ⟨b1, vw0, b2, b3⟩ := h3 j hj
    show G1 (A 2 j) = some ((3, j), .inr (2, [.int (σ.2 0 j), .int (σ.2 1 j), .ref (A 3 j)])) ∧ ∃ vw, TM G1 (A 3 j) j vw (Sp (tauT σ (nI i) kd wh fr nu) j) (va_up (A 5) (σ.1 2) q) (va_up (A 6) (σ.1 2) kb) (va_up (A 4) (σ.1 2) b) (kvk (tauT σ (nI i) kd wh fr nu)) ∧ ∀ v, vw = some v → G1 v = some ((5, j), .inr (11, [.ref (A 3 j)]))
    refine ⟨hk _ _ b1 (nn _ _ (by decide) (by decide) (by decide) (by decide)), ?_⟩
    by_cases hji : j = i
    · subst hji
      exact ⟨vw, by rw [Sp_adi]; exact hT, hv⟩
    · refine ⟨vw0, ?_, fun v hv => hk _ _ (b3 v hv) (nn _ _ (by decide) (by decide) (by decide) (by decide))⟩
      rw [Sp_add (by omega) (by omega) hji]
      have b4 := b2.keep hk (by
        rintro (h | h | ⟨k, -, h⟩)
        · exact tA_ne1 (by decide) (by decide) h
        · exact hji (congrArg Prod.snd h)
        · have := congrArg Prod.fst h; dsimp only at this; omega) (fun k hS => by
        rintro (h | h | ⟨k2, h6, h⟩)
        · exact tA_ne1 (by decide) (by decide) h
        · have := congrArg Prod.fst h; dsimp only at this; omega
        · have e : k = k2 := congrArg Prod.snd h
          subst e
          rcases h6 with h6 | h6
          · have := (nI_eq (by omega) (by omega)).mp (hS.2.symm.trans h6.2); omega
          · have := hS.1; omega) (fun t ht => by
        rcases ht with h | h | ⟨k, -, h⟩
        · exact tA_b t h
        · rw [show t = _ from h]; exact ⟨by show 4 ≠ 13; decide, by show 4 ≠ 50; decide⟩
        · rw [show t = _ from h]; exact ⟨by show 11 ≠ 13; decide, by show 11 ≠ 50; decide⟩)
      exact b4.cong (fun k hS => va_up_ne _ _ (by have := hS.1; omega)) (fun k hS => va_up_ne _ _ (by have := hS.1; omega)) (fun k hS => va_up_ne _ _ (by have := hS.1; omega)) (fun k hS => kvk_add hS.1)
  · have hk2 : k < σ.1 2 + 1 := hk9
    show G1 (va_up (A 4) (σ.1 2) b k) = some ((10, k), .inr (4, [.int (nI k), .ref (A 2 (va_up (σ.2 5) (σ.1 2) (nI i) k).toNatClampNeg), .int (va_up (σ.2 8) (σ.1 2) fr k), .int (va_up (σ.2 10) (σ.1 2) (σ.2 12 0) k), .ref (va_up (A 7) (σ.1 2) ef k), .int (if va_up (σ.2 11) (σ.1 2) (-1) k < 0 then 2147483647 else va_up (σ.2 11) (σ.1 2) (-1) k)])) ∧ EF Γ G1 (va_up (A 7) (σ.1 2) ef k) k (va_up (σ.2 6) (σ.1 2) kd k) (va_up (σ.2 7) (σ.1 2) wh k) (va_up (σ.2 9) (σ.1 2) nu k)
    by_cases hin : k = σ.1 2
    · subst hin
      simp only [va_up_self]
      rw [if_pos (by decide), nI_clamp (by omega)]
      exact ⟨hb, hE⟩
    · simp only [va_up_ne _ _ hin]
      obtain ⟨b1, b2⟩ := h4 k (by omega)
      exact ⟨hk _ _ b1 (nn _ _ (by decide) (by decide) (by decide) (by decide)), b2.keep hk (nn _ _ (by decide) (by decide) (by decide) (by decide))⟩

set_option maxHeartbeats 4000000 in
theorem c_open (l : Launch) (Γ : GP) (G : GH) (hst : l.stackTraces = false) {x : Nat} {σ : MS} {A : Nat → Nat → Nat} (hW : WF σ) (hX : XP Γ G x σ A) {b : Int32} (hC : CN Γ G) : MetX l yX1_open (ws_ yX1_open cX1_open 2 (some .int)) (RM 12 4000 12000) Γ G [.ref x, .int b] (fun v G1 => k0 σ b = 0 ∧ v = some (.int (nI (σ.1 0))) ∧ (∃ B, XP Γ G1 x (tauO σ b) B) ∧ gK TX G G1) (fun E G1 => ((E = EIA ∧ k0 σ b = 1) ∨ (E = EIS ∧ k0 σ b = 2)) ∧ XP Γ G1 x σ A ∧ gK TX G G1) 4000 12000 := by
  refine gMetX (own := RX1) (by decide) rfl (Nat.le_of_ble_eq_true rfl) ?_
  intro pp ee ss mm below meth cc0 ls X hr hlk hin hnm hxt hR hS hl
  have hl : lv_has ls 2 [(0, .ref x), (1, .int b)] := hl
  have hX9 := hX
  obtain ⟨⟨rf, hx, hrf⟩, ⟨c0, c1, c2, hcap, hA0, hA1, hA2⟩, hXp, hXc, hXt⟩ := hX9
  have h4 := hW.1
  obtain ⟨mo0, ea0, g0, hal0, -⟩ := id hA0
  refine lv_iload_n X.hx X.hb dX1_open_0 rfl (lv_at hl 1 rfl) ?_
  refine lv_iconst (v := 1) X.hx X.hb dX1_open_1 (by decide) ?_
  refine lv_sipush (v := 1000) X.hx X.hb dX1_open_2 (by decide) ?_
  refine gxS X hl.1 hR hS 3 [.int b, .int 1, .int 1000] [] (c_needNumber l Γ G hst) q162 q163 q36 q164 rfl rfl ⟨by decide +kernel, by decide +kernel, by decide +kernel⟩ ⟨by (try dsimp only [RM]); omega, by (try dsimp only [RM]); omega⟩ rfl rfl (Nat.le_of_ble_eq_true rfl) dX1_open_5 ⟨by (try dsimp only [RM]); omega, by (try dsimp only [RM]); omega⟩ (fun E521 ce q9 G9 H locs hq9 hR9 hS9 hce hcv hcl => ?_) (fun v519 G520 H locs hq516 hR517 hS518 => ?_)
  · obtain ⟨rfl, hbd, rfl⟩ := hq9
    exact g_out X hlk hxt hR9 hS9 hce hcv hcl (⟨Or.inl ⟨rfl, by rw [k0, if_pos hbd]⟩, hX, gK.rf⟩) (by (try dsimp only [RM]); omega) (by (try dsimp only [RM]); omega)
  · obtain ⟨rfl, hb0, hb1, rfl⟩ := hq516
    refine lv_aload_n X.hx X.hb dX1_open_8 rfl (lv_at hl 0 rfl) ?_
    refine g_get X hR517 hx rfl in_X1 0 (by decide) q118 (fun _ h => h) rfl dX1_open_9 ?_
    refine gcF X hl.1 hR517 hS518 0 [] [] (c_sizeA l Γ G hA0) hal0 rfl kf1 q144 q148 q150 q39 q152 rfl rfl ⟨by decide +kernel, by decide +kernel, by decide +kernel⟩ ⟨by (try dsimp only [RM]); omega, by (try dsimp only [RM]); omega⟩ rfl rfl (Nat.le_of_ble_eq_true rfl) dX1_open_12 ⟨by (try dsimp only [RM]); omega, by (try dsimp only [RM]); omega⟩ (fun v525 G526 H locs hq522 hR523 hS524 => ?_)
    obtain ⟨rfl, rfl⟩ := hq522
    refine lv_iconst (v := 4) X.hx X.hb dX1_open_17 (by decide) ?_
    refine lv_icmp_ge (tgt := 25) X.hx X.hb dX1_open_18 (by decide) (fun c18 => ?_) (fun c18 => ?_)
    · refine lv_iconst (v := 0) X.hx X.hb dX1_open_25 (by decide) ?_
      refine gxS X hl.1 hR523 hS524 1 [.int 0] [] (c_needState l Γ G hst) q230 q231 q36 q232 rfl rfl ⟨by decide +kernel, by decide +kernel, by decide +kernel⟩ ⟨by (try dsimp only [RM]); omega, by (try dsimp only [RM]); omega⟩ rfl rfl (Nat.le_of_ble_eq_true rfl) dX1_open_26 ⟨by (try dsimp only [RM]); omega, by (try dsimp only [RM]); omega⟩ (fun E532 ce q9 G9 H locs hq9 hR9 hS9 hce hcv hcl => ?_) (fun v530 G531 H locs hq527 hR528 hS529 => ?_)
      · obtain ⟨rfl, hbd, rfl⟩ := hq9
        exact g_out X hlk hxt hR9 hS9 hce hcv hcl (⟨Or.inr ⟨rfl, by rw [k0, if_neg (nbad hb0 hb1), if_pos (Int32.not_lt.mpr c18)]⟩, hX, gK.rf⟩) (by (try dsimp only [RM]); omega) (by (try dsimp only [RM]); omega)
      · obtain ⟨rfl, hns, rfl⟩ := hq527
        exact absurd rfl hns
    · refine lv_iconst (v := 1) X.hx X.hb dX1_open_21 (by decide) ?_
      refine lv_goto (tgt := 26) X.hx X.hb dX1_open_22 (by decide) ?_
      refine gxS X hl.1 hR523 hS524 1 [.int 1] [] (c_needState l Γ G hst) q230 q231 q36 q232 rfl rfl ⟨by decide +kernel, by decide +kernel, by decide +kernel⟩ ⟨by (try dsimp only [RM]); omega, by (try dsimp only [RM]); omega⟩ rfl rfl (Nat.le_of_ble_eq_true rfl) dX1_open_26 ⟨by (try dsimp only [RM]); omega, by (try dsimp only [RM]); omega⟩ (fun E538 ce q9 G9 H locs hq9 hR9 hS9 hce hcv hcl => ?_) (fun v536 G537 H locs hq533 hR534 hS535 => ?_)
      · obtain ⟨rfl, hbd, rfl⟩ := hq9
        exact g_out X hlk hxt hR9 hS9 hce hcv hcl (absurd hbd (by decide)) (by (try dsimp only [RM]); omega) (by (try dsimp only [RM]); omega)
      · obtain ⟨rfl, hns, rfl⟩ := hq533
        refine lv_aload_n X.hx X.hb dX1_open_29 rfl (lv_at hl 0 rfl) ?_
        refine g_get X hR534 hx rfl in_X1 0 (by decide) q118 (fun _ h => h) rfl dX1_open_30 ?_
        refine g_new (ci := 2) X hR534 hS535 (3, σ.1 0) (C := RX3) (T := TX3) (N := 3) rfl in_X3 tyX3 tyX3_ok q248 q249 q46 (fs := [.int 0, .int 0, .null]) (fun j hj => by rcases (show j = 0 ∨ j = 1 ∨ j = 2 by omega) with rfl | rfl | rfl <;> rfl) (by (try dsimp only [RM]); omega) (by (try dsimp only [RM]); omega) dX1_open_33 (fun q539 H hq541 hR540 hS542 => ?_)
        obtain ⟨G543, hG543⟩ : ∃ z : GH, z = gu G q539 ((3, σ.1 0), .inr (2, [.int 0, .int 0, .null])) := ⟨_, rfl⟩
        have hR540 : Rep Γ G543 H := by rw [hG543]; exact hR540
        have f544 : G543 x = some ((0, 0), .inr (0, [.ref (A 0 0), .ref (A 0 1), .ref (A 0 2), .int (σ.2 12 0), .ref (A 1 0)])) := by rw [hG543]; exact gu_f hx hq541
        have f545 : G543 (A 0 0) = some ((1, 0), .inr (6, [.int mo0, .ref ea0, .int (nI (σ.1 0))])) := by rw [hG543]; exact gu_f hal0 hq541
        have f546 : G543 q539 = some ((3, σ.1 0), .inr (2, [.int 0, .int 0, .null])) := by rw [hG543]; exact gu_s _ _ _
        refine lv_dup X.hx X.hb dX1_open_36 rfl ?_
        refine lv_iload_n X.hx X.hb dX1_open_37 rfl (lv_at hl 1 rfl) ?_
        have hgq : gK (fun _ => False) _ G543 := gK.nw hG543 hq541
        have hX1 := hX.keep (gK.mono hgq (fun _ h => h.elim))
        refine gcI X hl.1 hR540 hS542 1 [.int b] [.ref q539, .ref (A 0 0)] (c_X3i l Γ G543 f546) q250 q251 q46 q252 rfl rfl rfl ⟨by decide +kernel, by decide +kernel, by decide +kernel⟩ ⟨by (try dsimp only [RM]); omega, by (try dsimp only [RM]); omega⟩ rfl rfl (Nat.le_of_ble_eq_true rfl) dX1_open_38 ⟨by (try dsimp only [RM]); omega, by (try dsimp only [RM]); omega⟩ (fun v550 G551 H locs hq547 hR548 hS549 => ?_)
        obtain ⟨rfl, qt, hqt, hqt1, hqp, hgp⟩ := hq547
        have hgp2 : gK (fun t => t = (3, σ.1 0) ∨ t = (4, σ.1 0)) _ G551 := hgp
        have ne34 : ∀ a j : Nat, a ≠ 3 → a ≠ 4 → ¬ (((a, j) : Nat × Nat) = (3, σ.1 0) ∨ ((a, j) : Nat × Nat) = (4, σ.1 0)) := fun a j b c h => h.elim (fun e => b (congrArg Prod.fst e)) (fun e => c (congrArg Prod.fst e))
        have nei : ∀ a i : Nat, i < σ.1 0 → ¬ (((a, i) : Nat × Nat) = (3, σ.1 0) ∨ ((a, i) : Nat × Nat) = (4, σ.1 0)) := fun a i hi h => h.elim (fun e => by have := congrArg Prod.snd e; dsimp only at this; omega) (fun e => by have := congrArg Prod.snd e; dsimp only at this; omega)
        have hX2 := hX1.kp hgp2 (ne34 _ _ (by decide) (by decide)) (ne34 _ _ (by decide) (by decide)) (fun i _ => ne34 _ _ (by decide) (by decide)) (fun i _ => ne34 _ _ (by decide) (by decide)) (ne34 _ _ (by decide) (by decide)) (fun i hi => ⟨nei _ _ hi, nei _ _ hi, nei _ _ hi⟩) (fun k _ => ⟨ne34 _ _ (by decide) (by decide), ne34 _ _ (by decide) (by decide), ne34 _ _ (by decide) (by decide)⟩) (fun t ht => by rcases ht with h | h <;> rw [show t = _ from h] <;> exact ⟨by simp, by simp⟩) (fun j _ => ne34 _ _ (by decide) (by decide))
        obtain ⟨⟨_, hx, -⟩, ⟨d0, d1, d2, hdc, hB0, hB1, hB2⟩, hXp2, -⟩ := id hX2
        obtain ⟨mo9, ea9, g9, hal9, -⟩ := id hB0
        have hC2 := (hC.keep hgq (fun _ h => h.elim)).keep hgp2 (fun t ht => by rcases ht with h | h <;> rw [show t = _ from h] <;> simp)
        obtain ⟨hcc1, hcc2⟩ := hB0.cap2
        obtain ⟨hz1, hz2, hz3, hz4⟩ := aS_bd hcc1 hcc2
        have hadd := c_add l Γ G551 hB0 (by omega) (fun j hj y hy => by cases hy; exact ⟨_, 2, _, _, (hXp2 j hj).1, rfl, kq1514⟩) hC2.q5 hqp (ci := 2) rfl kq1514 (tne rfl)
        refine gcF X hl.1 hR548 hS549 1 [.ref q539] [] (hadd) hal9 rfl kf2 q305 q308 q310 q39 q312 rfl rfl ⟨by decide +kernel, by decide +kernel, by decide +kernel⟩ ⟨by (try dsimp only [RM]); omega, by (try dsimp only [RM]); omega⟩ rfl rfl (Nat.le_of_ble_eq_true rfl) dX1_open_41 ⟨by (try dsimp only [RM]); omega, by (try dsimp only [RM]); omega⟩ (fun v555 G556 H locs hq552 hR553 hS554 => ?_)
        obtain ⟨rfl, hga, hAL9⟩ := hq552
        have hX3 := XP.addp (b := b) hW hX2 hga hAL9 (by omega) (hga _ _ hqp (tA_ne1 (by decide) (by decide))) (hga _ _ hqt1 (tA_ne1 (by decide) (by decide)))
        obtain ⟨mo8, ea8, g8, hal8, -⟩ := id hAL9
        have hx := hga _ _ hx (tA_ne1 (by decide) (by decide))
        have hgf : gK TX G G556 := gK.tr (gK.mono hgq (fun _ h => h.elim)) (gK.tr (gK.mono hgp2 (fun t ht => by rcases ht with h | h <;> rw [show t = _ from h] <;> show _ < 30 <;> simp)) (TX_tA hga))
        refine lv_pop X.hx X.hb dX1_open_46 rfl ?_
        refine lv_aload_n X.hx X.hb dX1_open_47 rfl (lv_at hl 0 rfl) ?_
        refine g_get X hR553 hx rfl in_X1 0 (by decide) q118 (fun _ h => h) rfl dX1_open_48 ?_
        refine gcF X hl.1 hR553 hS554 0 [] [] (c_sizeA l Γ G556 hAL9) hal8 rfl kf1 q144 q148 q150 q39 q152 rfl rfl ⟨by decide +kernel, by decide +kernel, by decide +kernel⟩ ⟨by (try dsimp only [RM]); omega, by (try dsimp only [RM]); omega⟩ rfl rfl (Nat.le_of_ble_eq_true rfl) dX1_open_51 ⟨by (try dsimp only [RM]); omega, by (try dsimp only [RM]); omega⟩ (fun v560 G561 H locs hq557 hR558 hS559 => ?_)
        obtain ⟨rfl, rfl⟩ := hq557
        refine lv_iconst (v := 1) X.hx X.hb dX1_open_56 (by decide) ?_
        refine lv_isub X.hx X.hb dX1_open_57 ?_
        refine lv_topi (fun x562 hx562 => ?_)
        obtain rfl : x562 = nI (σ.1 0) := hx562.trans (nI_pred _)
        refine vx_ret ?_
        exact g_iret X hr hlk hR558 hS559 (⟨by rw [k0, if_neg (nbad hb0 hb1), if_neg (fun h9 => h9 (Int32.not_le.mp c18))], rfl, ⟨_, hX3⟩, hgf⟩) (by (try dsimp only [RM]); omega) (by (try dsimp only [RM]); omega) dX1_open_58

set_option maxHeartbeats 4000000 in
theorem c_setWeight (l : Launch) (Γ : GP) (G : GH) (hst : l.stackTraces = false) {x : Nat} {σ : MS} {A : Nat → Nat → Nat} (hW : WF σ) (hX : XP Γ G x σ A) {f w fr : Int32} (hC : CN Γ G) : MetX l yX1_setWeight (ws_ yX1_setWeight cX1_setWeight 4 (some .int)) (RM 12 4000 12000) Γ G [.ref x, .int f, .int w, .int fr] (fun v G1 => k1 σ f w fr = 0 ∧ v = some (.int (nI (σ.1 1 + 1))) ∧ (∃ B, XP Γ G1 x (tauW σ f w fr) B) ∧ gK TX G G1) (fun E G1 => ((E = EIO ∧ k1 σ f w fr = 1) ∨ (E = EIA ∧ k1 σ f w fr = 2) ∨ (E = EIS ∧ k1 σ f w fr = 3)) ∧ XP Γ G1 x σ A ∧ gK TX G G1) 4000 12000 := by
  refine gMetX (own := RX1) (by decide) rfl (Nat.le_of_ble_eq_true rfl) ?_
  intro pp ee ss mm below meth cc0 ls X hr hlk hin hnm hxt hR hS hl
  have hl : lv_has ls 4 [(0, .ref x), (1, .int f), (2, .int w), (3, .int fr)] := hl
  have hX9 := hX
  obtain ⟨⟨rf, hx, hrf⟩, ⟨c0, c1, c2, hcap, hA0, hA1, hA2⟩, hXp, hXc, hXt⟩ := hX9
  have h4 := hW.2.1
  obtain ⟨mo2, ea2, g2, hal2, -⟩ := id hA2
  refine lv_iload_n X.hx X.hb dX1_setWeight_0 rfl (lv_at hl 1 rfl) ?_
  refine lv_iconst (v := 3) X.hx X.hb dX1_setWeight_1 (by decide) ?_
  refine gxS X hl.1 hR hS 2 [.int f, .int 3] [] (c_needPlace l Γ G hst) q420 q421 q36 q422 rfl rfl ⟨by decide +kernel, by decide +kernel, by decide +kernel⟩ ⟨by (try dsimp only [RM]); omega, by (try dsimp only [RM]); omega⟩ rfl rfl (Nat.le_of_ble_eq_true rfl) dX1_setWeight_2 ⟨by (try dsimp only [RM]); omega, by (try dsimp only [RM]); omega⟩ (fun E568 ce q9 G9 H locs hq9 hR9 hS9 hce hcv hcl => ?_) (fun v566 G567 H locs hq563 hR564 hS565 => ?_)
  · obtain ⟨rfl, hbd, rfl⟩ := hq9
    exact g_out X hlk hxt hR9 hS9 hce hcv hcl (⟨Or.inl ⟨rfl, by rw [k1, if_pos hbd]⟩, hX, gK.rf⟩) (by (try dsimp only [RM]); omega) (by (try dsimp only [RM]); omega)
  · obtain ⟨rfl, hf0, hf1, rfl⟩ := hq563
    refine lv_iload_n X.hx X.hb dX1_setWeight_5 rfl (lv_at hl 2 rfl) ?_
    refine lv_iconst (v := 0) X.hx X.hb dX1_setWeight_6 (by decide) ?_
    refine lv_bipush (v := 100) X.hx X.hb dX1_setWeight_7 (by decide) ?_
    refine gxS X hl.1 hR564 hS565 3 [.int w, .int 0, .int 100] [] (c_needNumber l Γ G hst) q162 q163 q36 q164 rfl rfl ⟨by decide +kernel, by decide +kernel, by decide +kernel⟩ ⟨by (try dsimp only [RM]); omega, by (try dsimp only [RM]); omega⟩ rfl rfl (Nat.le_of_ble_eq_true rfl) dX1_setWeight_9 ⟨by (try dsimp only [RM]); omega, by (try dsimp only [RM]); omega⟩ (fun E574 ce q9 G9 H locs hq9 hR9 hS9 hce hcv hcl => ?_) (fun v572 G573 H locs hq569 hR570 hS571 => ?_)
    · obtain ⟨rfl, hbd, rfl⟩ := hq9
      exact g_out X hlk hxt hR9 hS9 hce hcv hcl (⟨Or.inr (Or.inl ⟨rfl, by rw [k1, if_neg (nbdP hf0 hf1), if_pos (Or.inl hbd)]⟩), hX, gK.rf⟩) (by (try dsimp only [RM]); omega) (by (try dsimp only [RM]); omega)
    · obtain ⟨rfl, hw0, hw1, rfl⟩ := hq569
      refine lv_iload_n X.hx X.hb dX1_setWeight_12 rfl (lv_at hl 3 rfl) ?_
      refine lv_iconst (v := 0) X.hx X.hb dX1_setWeight_13 (by decide) ?_
      refine lv_sipush (v := 364) X.hx X.hb dX1_setWeight_14 (by decide) ?_
      refine gxS X hl.1 hR570 hS571 3 [.int fr, .int 0, .int 364] [] (c_needNumber l Γ G hst) q162 q163 q36 q164 rfl rfl ⟨by decide +kernel, by decide +kernel, by decide +kernel⟩ ⟨by (try dsimp only [RM]); omega, by (try dsimp only [RM]); omega⟩ rfl rfl (Nat.le_of_ble_eq_true rfl) dX1_setWeight_17 ⟨by (try dsimp only [RM]); omega, by (try dsimp only [RM]); omega⟩ (fun E580 ce q9 G9 H locs hq9 hR9 hS9 hce hcv hcl => ?_) (fun v578 G579 H locs hq575 hR576 hS577 => ?_)
      · obtain ⟨rfl, hbd, rfl⟩ := hq9
        exact g_out X hlk hxt hR9 hS9 hce hcv hcl (⟨Or.inr (Or.inl ⟨rfl, by rw [k1, if_neg (nbdP hf0 hf1), if_pos (Or.inr hbd)]⟩), hX, gK.rf⟩) (by (try dsimp only [RM]); omega) (by (try dsimp only [RM]); omega)
      · obtain ⟨rfl, hr0, hr1, rfl⟩ := hq575
        refine lv_aload_n X.hx X.hb dX1_setWeight_20 rfl (lv_at hl 0 rfl) ?_
        refine g_get X hR576 hx rfl in_X1 2 (by decide) q120 (fun _ h => h) rfl dX1_setWeight_21 ?_
        refine gcF X hl.1 hR576 hS577 0 [] [] (c_sizeA l Γ G hA2) hal2 rfl kf1 q144 q148 q150 q39 q152 rfl rfl ⟨by decide +kernel, by decide +kernel, by decide +kernel⟩ ⟨by (try dsimp only [RM]); omega, by (try dsimp only [RM]); omega⟩ rfl rfl (Nat.le_of_ble_eq_true rfl) dX1_setWeight_24 ⟨by (try dsimp only [RM]); omega, by (try dsimp only [RM]); omega⟩ (fun v584 G585 H locs hq581 hR582 hS583 => ?_)
        obtain ⟨rfl, rfl⟩ := hq581
        refine lv_bipush (v := 20) X.hx X.hb dX1_setWeight_29 (by decide) ?_
        refine lv_icmp_ge (tgt := 38) X.hx X.hb dX1_setWeight_31 (by decide) (fun c31 => ?_) (fun c31 => ?_)
        · refine lv_iconst (v := 0) X.hx X.hb dX1_setWeight_38 (by decide) ?_
          refine gxS X hl.1 hR582 hS583 1 [.int 0] [] (c_needState l Γ G hst) q230 q231 q36 q232 rfl rfl ⟨by decide +kernel, by decide +kernel, by decide +kernel⟩ ⟨by (try dsimp only [RM]); omega, by (try dsimp only [RM]); omega⟩ rfl rfl (Nat.le_of_ble_eq_true rfl) dX1_setWeight_39 ⟨by (try dsimp only [RM]); omega, by (try dsimp only [RM]); omega⟩ (fun E591 ce q9 G9 H locs hq9 hR9 hS9 hce hcv hcl => ?_) (fun v589 G590 H locs hq586 hR587 hS588 => ?_)
          · obtain ⟨rfl, hbd, rfl⟩ := hq9
            exact g_out X hlk hxt hR9 hS9 hce hcv hcl (⟨Or.inr (Or.inr ⟨rfl, by rw [k1, if_neg (nbdP hf0 hf1), if_neg (or_no (nbad hw0 hw1) (nbad hr0 hr1)), if_pos (Int32.not_lt.mpr c31)]⟩), hX, gK.rf⟩) (by (try dsimp only [RM]); omega) (by (try dsimp only [RM]); omega)
          · obtain ⟨rfl, hns, rfl⟩ := hq586
            exact absurd rfl hns
        · refine lv_iconst (v := 1) X.hx X.hb dX1_setWeight_34 (by decide) ?_
          refine lv_goto (tgt := 39) X.hx X.hb dX1_setWeight_35 (by decide) ?_
          refine gxS X hl.1 hR582 hS583 1 [.int 1] [] (c_needState l Γ G hst) q230 q231 q36 q232 rfl rfl ⟨by decide +kernel, by decide +kernel, by decide +kernel⟩ ⟨by (try dsimp only [RM]); omega, by (try dsimp only [RM]); omega⟩ rfl rfl (Nat.le_of_ble_eq_true rfl) dX1_setWeight_39 ⟨by (try dsimp only [RM]); omega, by (try dsimp only [RM]); omega⟩ (fun E597 ce q9 G9 H locs hq9 hR9 hS9 hce hcv hcl => ?_) (fun v595 G596 H locs hq592 hR593 hS594 => ?_)
          · obtain ⟨rfl, hbd, rfl⟩ := hq9
            exact g_out X hlk hxt hR9 hS9 hce hcv hcl (absurd hbd (by decide)) (by (try dsimp only [RM]); omega) (by (try dsimp only [RM]); omega)
          · obtain ⟨rfl, hns, rfl⟩ := hq592
            refine lv_aload_n X.hx X.hb dX1_setWeight_42 rfl (lv_at hl 0 rfl) ?_
            refine g_get X hR593 hx rfl in_X1 2 (by decide) q120 (fun _ h => h) rfl dX1_setWeight_43 ?_
            refine g_new (ci := 3) X hR593 hS594 (14, σ.1 1) (C := RX4) (T := TX4) (N := 3) rfl in_X4 tyX4 tyX4_ok q438 q439 q57 (fs := [.int 0, .int 0, .int 0]) (fun j hj => by rcases (show j = 0 ∨ j = 1 ∨ j = 2 by omega) with rfl | rfl | rfl <;> rfl) (by (try dsimp only [RM]); omega) (by (try dsimp only [RM]); omega) dX1_setWeight_46 (fun q598 H hq600 hR599 hS601 => ?_)
            obtain ⟨G602, hG602⟩ : ∃ z : GH, z = gu G q598 ((14, σ.1 1), .inr (3, [.int 0, .int 0, .int 0])) := ⟨_, rfl⟩
            have hR599 : Rep Γ G602 H := by rw [hG602]; exact hR599
            have f603 : G602 x = some ((0, 0), .inr (0, [.ref (A 0 0), .ref (A 0 1), .ref (A 0 2), .int (σ.2 12 0), .ref (A 1 0)])) := by rw [hG602]; exact gu_f hx hq600
            have f604 : G602 (A 0 2) = some ((1, 2), .inr (6, [.int mo2, .ref ea2, .int (nI (σ.1 1))])) := by rw [hG602]; exact gu_f hal2 hq600
            have f605 : G602 q598 = some ((14, σ.1 1), .inr (3, [.int 0, .int 0, .int 0])) := by rw [hG602]; exact gu_s _ _ _
            refine lv_dup X.hx X.hb dX1_setWeight_49 rfl ?_
            refine lv_iload_n X.hx X.hb dX1_setWeight_50 rfl (lv_at hl 1 rfl) ?_
            refine lv_iload_n X.hx X.hb dX1_setWeight_51 rfl (lv_at hl 2 rfl) ?_
            refine lv_iload_n X.hx X.hb dX1_setWeight_52 rfl (lv_at hl 3 rfl) ?_
            have hgq : gK (fun _ => False) _ G602 := gK.nw hG602 hq600
            have hX1 := hX.keep (gK.mono hgq (fun _ h => h.elim))
            refine gcIN X hl.1 hR599 hS601 3 [.int f, .int w, .int fr] [.ref q598, .ref (A 0 2)] (c_X4i l Γ G602 f605) kq440 q441 q57 q442 rfl rfl rfl ⟨by decide +kernel, by decide +kernel, by decide +kernel⟩ ⟨by (try dsimp only [RM]); omega, by (try dsimp only [RM]); omega⟩ rfl rfl (Nat.le_of_ble_eq_true rfl) dX1_setWeight_53 ⟨by (try dsimp only [RM]); omega, by (try dsimp only [RM]); omega⟩ (fun v609 G610 H locs hq606 hR607 hS608 => ?_)
            obtain ⟨rfl, hGt⟩ := hq606
            have hgp : gK (fun t => t = (14, σ.1 1)) _ G610 := gK.pt hGt f605 rfl
            have nej : ∀ a i : Nat, (a ≠ 14 ∨ i < σ.1 1) → ¬ ((a, i) : Nat × Nat) = (14, σ.1 1) := fun a i h e => h.elim (fun h => h (congrArg Prod.fst e)) (fun h => by have := congrArg Prod.snd e; dsimp only at this; omega)
            have hX2 := hX1.kp hgp (nej _ _ (Or.inl (by decide))) (nej _ _ (Or.inl (by decide))) (fun i _ => nej _ _ (Or.inl (by decide))) (fun i _ => nej _ _ (Or.inl (by decide))) (nej _ _ (Or.inl (by decide))) (fun i hi => ⟨nej _ _ (Or.inl (by decide)), nej _ _ (Or.inl (by decide)), nej _ _ (Or.inl (by decide))⟩) (fun k _ => ⟨nej _ _ (Or.inl (by decide)), nej _ _ (Or.inl (by decide)), nej _ _ (Or.inl (by decide))⟩) (fun t ht => by rw [show t = _ from ht]; exact ⟨by show 14 ≠ 13; decide, by show 14 ≠ 50; decide⟩) (fun j hj => nej _ _ (Or.inr hj))
            have hqp : G610 q598 = some ((14, σ.1 1), .inr (3, [.int f, .int w, .int fr])) := by rw [hGt]; exact gu_s _ _ _
            obtain ⟨⟨_, hx, -⟩, ⟨d0, d1, d2, hdc, hB0, hB1, hB2⟩, -, -, hXt2⟩ := id hX2
            obtain ⟨mo9, ea9, g9, hal9, -⟩ := id hB2
            have hC2 := (hC.keep hgq (fun _ h => h.elim)).keep hgp (fun t ht => by rw [show t = _ from ht]; show 14 < 50; decide)
            obtain ⟨hcc1, hcc2⟩ := hB2.cap2
            obtain ⟨hz1, hz2, hz3, hz4⟩ := aS_bd hcc1 hcc2
            have hadd := c_add l Γ G610 hB2 (by omega) (fun j hj y hy => by cases hy; exact ⟨_, 3, _, _, hXt2 j hj, rfl, kq1518⟩) hC2.q5 hqp (ci := 3) rfl kq1518 (tne rfl)
            refine gcF X hl.1 hR607 hS608 1 [.ref q598] [] (hadd) hal9 rfl kf2 q305 q308 q310 q39 q312 rfl rfl ⟨by decide +kernel, by decide +kernel, by decide +kernel⟩ ⟨by (try dsimp only [RM]); omega, by (try dsimp only [RM]); omega⟩ rfl rfl (Nat.le_of_ble_eq_true rfl) dX1_setWeight_56 ⟨by (try dsimp only [RM]); omega, by (try dsimp only [RM]); omega⟩ (fun v614 G615 H locs hq611 hR612 hS613 => ?_)
            obtain ⟨rfl, hga, hAL9⟩ := hq611
            have hX3 := XP.addt hX2 hga hAL9 (by omega) (hga _ _ hqp (tA_ne1 (by decide) (by decide)))
            obtain ⟨mo8, ea8, g8, hal8, -⟩ := id hAL9
            have hx := hga _ _ hx (tA_ne1 (by decide) (by decide))
            have hgf : gK TX G G615 := gK.tr (gK.mono hgq (fun _ h => h.elim)) (gK.tr (gK.mono hgp (fun t ht => by rw [show t = _ from ht]; show 14 < 30; decide)) (TX_tA hga))
            refine lv_pop X.hx X.hb dX1_setWeight_61 rfl ?_
            refine lv_aload_n X.hx X.hb dX1_setWeight_62 rfl (lv_at hl 0 rfl) ?_
            refine g_get X hR612 hx rfl in_X1 2 (by decide) q120 (fun _ h => h) rfl dX1_setWeight_63 ?_
            refine gcF X hl.1 hR612 hS613 0 [] [] (c_sizeA l Γ G615 hAL9) hal8 rfl kf1 q144 q148 q150 q39 q152 rfl rfl ⟨by decide +kernel, by decide +kernel, by decide +kernel⟩ ⟨by (try dsimp only [RM]); omega, by (try dsimp only [RM]); omega⟩ rfl rfl (Nat.le_of_ble_eq_true rfl) dX1_setWeight_66 ⟨by (try dsimp only [RM]); omega, by (try dsimp only [RM]); omega⟩ (fun v619 G620 H locs hq616 hR617 hS618 => ?_)
            obtain ⟨rfl, rfl⟩ := hq616
            refine vx_ret ?_
            exact g_iret X hr hlk hR617 hS618 (⟨by rw [k1, if_neg (nbdP hf0 hf1), if_neg (or_no (nbad hw0 hw1) (nbad hr0 hr1)), if_neg (fun h9 => h9 (Int32.not_le.mp c31))], rfl, ⟨_, hX3⟩, hgf⟩) (by (try dsimp only [RM]); omega) (by (try dsimp only [RM]); omega) dX1_setWeight_71

