set_option maxRecDepth 100000
/-! the mathematical state; the component's picture of it -/
/-- counts: 0 policies, 1 tariffs, 2 changes; rows: 0 base 1 paid 2 field 3 weight 4 since 5 of 6 kind 7 which 8 from 9 number 10 told 11 taken 12 today -/
abbrev MS : Type := (Nat → Nat) × (Nat → Nat → Int32)
def rg (x : Int32) (a b : Int) : Prop := a ≤ x.toInt ∧ x.toInt ≤ b
def WF (σ : MS) : Prop := σ.1 0 ≤ 4 ∧ σ.1 1 ≤ 20 ∧ σ.1 2 ≤ 60 ∧ rg (σ.2 12 0) 0 100000 ∧ (∀ i, i < σ.1 0 → rg (σ.2 0 i) 1 1000) ∧ (∀ j, j < σ.1 1 → rg (σ.2 2 j) 0 2 ∧ rg (σ.2 3 j) 0 100 ∧ rg (σ.2 4 j) 0 364) ∧
  ∀ k, k < σ.1 2 → (∃ p, p < σ.1 0 ∧ σ.2 5 k = nI p) ∧ (σ.2 6 k = 0 ∨ σ.2 6 k = 1 ∨ σ.2 6 k = 2 ∨ σ.2 6 k = 3) ∧ rg (σ.2 7 k) 0 2 ∧ rg (σ.2 8 k) 0 364 ∧ rg (σ.2 9 k) (-20) 20 ∧ (σ.2 6 k = 0 → rg (σ.2 9 k) 0 20) ∧ rg (σ.2 10 k) 0 100000 ∧ rg (σ.2 11 k) (-1) 100000
abbrev knw (σ : MS) (k : Nat) (d : Int32) : Prop := σ.2 10 k ≤ d ∧ (σ.2 11 k < 0 ∨ d < σ.2 11 k)
def tbk (σ : MS) (k : Nat) : Int32 := if σ.2 11 k < 0 then 2147483647 else σ.2 11 k
def kvk (σ : MS) (k : Nat) : Int32 := 100 * σ.2 8 k + nI k
abbrev Sp (σ : MS) (p k : Nat) : Prop := k < σ.1 2 ∧ σ.2 5 k = nI p
/-- what the known changes of policy p leave, up to a key -/
def Fk (σ : MS) (p : Nat) (d : Int32) : Nat → VW
  | 0 => (fun _ => 0, 1)
  | κ + 1 => if Sp σ p (κ % 100) ∧ (σ.2 8 (κ % 100)).toInt = (κ / 100 : Nat) ∧ knw σ (κ % 100) d then apk (σ.2 6 (κ % 100)) (σ.2 7 (κ % 100)) (σ.2 9 (κ % 100)) (Fk σ p d κ) else Fk σ p d κ
theorem Fk_succ (σ : MS) (p : Nat) (d : Int32) (κ : Nat) : Fk σ p d (κ + 1) = if Sp σ p (κ % 100) ∧ (σ.2 8 (κ % 100)).toInt = (κ / 100 : Nat) ∧ knw σ (κ % 100) d then apk (σ.2 6 (κ % 100)) (σ.2 7 (κ % 100)) (σ.2 9 (κ % 100)) (Fk σ p d κ) else Fk σ p d κ := rfl
theorem knw_tb {σ : MS} {k : Nat} {d : Int32} (hd : d.toInt < 2147483647) : knw σ k d ↔ (σ.2 10 k ≤ d ∧ d < tbk σ k) := by
  unfold knw tbk
  have e0 : (0 : Int32).toInt = 0 := rfl
  have eM : (2147483647 : Int32).toInt = 2147483647 := rfl
  by_cases h : σ.2 11 k < 0
  · rw [if_pos h]
    exact ⟨fun h9 => ⟨h9.1, Int32.lt_iff_toInt_lt.mpr (by omega)⟩, fun h9 => ⟨h9.1, Or.inl h⟩⟩
  · rw [if_neg h]
    exact ⟨fun h9 => ⟨h9.1, h9.2.resolve_left h⟩, fun h9 => ⟨h9.1, Or.inr h9.2⟩⟩
theorem kv_int {σ : MS} (hW : WF σ) {k : Nat} (hk : k < σ.1 2) : (kvk σ k).toInt = 100 * (σ.2 8 k).toInt + k := by
  obtain ⟨-, -, h3, -, -, -, h7⟩ := hW
  obtain ⟨-, -, -, ⟨h8, h9⟩, -⟩ := h7 k hk
  unfold kvk
  have e1 : (nI k).toInt = k := nI_toInt (by omega)
  have e2 : (100 : Int32).toInt = 100 := rfl
  rw [Int32.toInt_add, Int32.toInt_mul, e1, e2]
  rw [Int.bmod_eq_of_le (by rw [Int.bmod_eq_of_le (by omega) (by omega)]; omega) (by rw [Int.bmod_eq_of_le (by omega) (by omega)]; omega), Int.bmod_eq_of_le (by omega) (by omega)]
theorem Fk_gap {σ : MS} (hW : WF σ) {p : Nat} {d : Int32} {κ : Nat} : ∀ n : Nat, (∀ k, Sp σ p k → (κ : Int) ≤ (kvk σ k).toInt → (kvk σ k).toInt < ((κ + n : Nat) : Int) → False) → Fk σ p d (κ + n) = Fk σ p d κ := by
  intro n
  induction n with
  | zero => intro _; rfl
  | succ n ih =>
    intro h
    have h1 := ih (fun k a b c => h k a b (by omega))
    rw [← h1]
    rw [show κ + (n + 1) = κ + n + 1 from rfl, Fk_succ, if_neg]
    rintro ⟨a, b, c⟩
    have := kv_int hW a.1
    refine h _ a ?_ ?_ <;> omega
theorem Fk_step {σ : MS} (hW : WF σ) {p : Nat} {d : Int32} {k : Nat} (hk : Sp σ p k) : Fk σ p d ((kvk σ k).toInt.toNat + 1) = if knw σ k d then apk (σ.2 6 k) (σ.2 7 k) (σ.2 9 k) (Fk σ p d (kvk σ k).toInt.toNat) else Fk σ p d (kvk σ k).toInt.toNat := by
  have h1 := kv_int hW hk.1
  have h3 := hW.2.2.1
  have hkl := hk.1
  obtain ⟨-, -, -, ⟨h8, h9⟩, -⟩ := hW.2.2.2.2.2.2 k hk.1
  have e1 : (kvk σ k).toInt.toNat % 100 = k := by omega
  have e2 : (((kvk σ k).toInt.toNat / 100 : Nat) : Int) = (σ.2 8 k).toInt := by omega
  rw [Fk_succ, e1]
  by_cases hn : knw σ k d
  · rw [if_pos hn, if_pos ⟨hk, e2.symm, hn⟩]
  · rw [if_neg hn, if_neg (fun h => hn h.2.2)]
/-- an effect's object -/
def EF (Γ : GP) (G : GH) (e k : Nat) (kind which number : Int32) : Prop := (kind = 0 ∧ ∃ f : Nat → Int32, G e = some ((12, k), .inl (Γ.2 11, 2, .inl f)) ∧ f 0 = which ∧ f 1 = number) ∨ (kind = 1 ∧ ∃ f : Nat → Int32, G e = some ((12, k), .inl (Γ.2 12, 2, .inl f)) ∧ f 0 = which ∧ f 1 = number) ∨ (kind = 2 ∧ e = Γ.2 15) ∨ (kind = 3 ∧ e = Γ.2 16)
theorem EF.keep {Γ : GP} {G G1 : GH} {e k : Nat} {kind which number : Int32} {T : Nat × Nat → Prop} (h : EF Γ G e k kind which number) (hk : gK T G G1) (h1 : ¬ T (12, k)) : EF Γ G1 e k kind which number := by
  rcases h with ⟨a, f, b, c⟩ | ⟨a, f, b, c⟩ | h | h
  · exact Or.inl ⟨a, f, hk _ _ b h1, c⟩
  · exact Or.inr (Or.inl ⟨a, f, hk _ _ b h1, c⟩)
  · exact Or.inr (Or.inr (Or.inl h))
  · exact Or.inr (Or.inr (Or.inr h))
/-- the component's objects hold σ; A: their addresses: 0 lists, 1 rates, 2 policies, 3 trees, 4 changes, 5 entries, 6 keys, 7 effects, 8 tariffs -/
def XP (Γ : GP) (G : GH) (x : Nat) (σ : MS) (A : Nat → Nat → Nat) : Prop :=
  (∃ rf : Nat → Int32, G x = some ((0, 0), .inr (0, [.ref (A 0 0), .ref (A 0 1), .ref (A 0 2), .int (σ.2 12 0), .ref (A 1 0)])) ∧ G (A 1 0) = some ((15, 0), .inl (Γ.2 1, 365, .inl rf))) ∧
  (∃ c0 c1 c2 : Nat, (c0 ≤ 1000 ∧ c1 ≤ 1000 ∧ c2 ≤ 1000) ∧ AL Γ G (A 0 0) 0 (σ.1 0) c0 (fun i => some (A 2 i)) ∧ AL Γ G (A 0 1) 1 (σ.1 2) c1 (fun k => some (A 4 k)) ∧ AL Γ G (A 0 2) 2 (σ.1 1) c2 (fun j => some (A 8 j))) ∧
  (∀ i, i < σ.1 0 → G (A 2 i) = some ((3, i), .inr (2, [.int (σ.2 0 i), .int (σ.2 1 i), .ref (A 3 i)])) ∧ ∃ vw, TM G (A 3 i) i vw (Sp σ i) (A 5) (A 6) (A 4) (kvk σ) ∧ ∀ v, vw = some v → G v = some ((5, i), .inr (11, [.ref (A 3 i)]))) ∧
  (∀ k, k < σ.1 2 → G (A 4 k) = some ((10, k), .inr (4, [.int (nI k), .ref (A 2 (σ.2 5 k).toNatClampNeg), .int (σ.2 8 k), .int (σ.2 10 k), .ref (A 7 k), .int (tbk σ k)])) ∧ EF Γ G (A 7 k) k (σ.2 6 k) (σ.2 7 k) (σ.2 9 k)) ∧
  ∀ j, j < σ.1 1 → G (A 8 j) = some ((14, j), .inr (3, [.int (σ.2 2 j), .int (σ.2 3 j), .int (σ.2 4 j)]))
/-- what no operation's working cells touch -/
def TR (t : Nat × Nat) : Prop := 20 ≤ t.1 ∧ t.1 < 30
theorem XP.keep {Γ : GP} {G G1 : GH} {x : Nat} {σ : MS} {A : Nat → Nat → Nat} (h : XP Γ G x σ A) (hk : gK TR G G1) : XP Γ G1 x σ A := by
  have no : ∀ i j : Nat, i < 20 → ¬ TR (i, j) := fun i j hi h => absurd h.1 (Nat.not_le.mpr hi)
  have n51 : ¬ TR (51, 0) := fun h => absurd h.2 (by decide)
  obtain ⟨⟨rf, h1, h2⟩, ⟨c0, c1, c2, hc, a0, a1, a2⟩, h3, h4, h5⟩ := h
  refine ⟨⟨rf, hk _ _ h1 (no _ _ (by decide)), hk _ _ h2 (no _ _ (by decide))⟩, ⟨c0, c1, c2, hc, a0.keep hk (no _ _ (by decide)) (no _ _ (by decide)) n51, a1.keep hk (no _ _ (by decide)) (no _ _ (by decide)) n51, a2.keep hk (no _ _ (by decide)) (no _ _ (by decide)) n51⟩, fun i hi => ?_, fun k hk9 => ?_, fun j hj => hk _ _ (h5 j hj) (no _ _ (by decide))⟩
  · obtain ⟨b1, vw, b2, b3⟩ := h3 i hi
    refine ⟨hk _ _ b1 (no _ _ (by decide)), vw, b2.keep hk (no _ _ (by decide)) (fun k _ => no _ _ (by decide)) (fun t ht => ⟨fun e => ?_, fun e => ?_⟩), fun v hv => hk _ _ (b3 v hv) (no _ _ (by decide))⟩
    · have := ht.1; omega
    · have := ht.2; omega
  · obtain ⟨b1, b2⟩ := h4 k hk9
    exact ⟨hk _ _ b1 (no _ _ (by decide)), b2.keep hk (no _ _ (by decide))⟩

