section
/-! rows taken out of the kit's rows to paste (BITS, PURE-ROWS) -/
def bt (x : Int32) (i : Nat) : Bool := x.toBitVec.getLsbD i
theorem b_ext {x y : Int32} (h : ∀ i, i < 32 → bt x i = bt y i) : x = y := Int32.toBitVec_inj.mp (BitVec.eq_of_getLsbD_eq (fun i hi => h i hi))
theorem b_and (x y : Int32) (i : Nat) : bt (x &&& y) i = (bt x i && bt y i) := by unfold bt; rw [Int32.toBitVec_and, BitVec.getLsbD_and]
theorem b_xor (x y : Int32) (i : Nat) : bt (x ^^^ y) i = (bt x i ^^ bt y i) := by unfold bt; rw [Int32.toBitVec_xor, BitVec.getLsbD_xor]
theorem b_big {x : Int32} {i : Nat} (h : 32 ≤ i) : bt x i = false := BitVec.getLsbD_of_ge _ _ h
theorem b_255 (i : Nat) : bt 255 i = decide (i < 8) := by
  rcases Nat.lt_or_ge i 32 with h | h
  · exact (by decide +kernel : ∀ i, i < 32 → bt 255 i = decide (i < 8)) i h
  · rw [b_big h, decide_eq_false (by omega)]
theorem bp_b (x : Int32) : x.toInt8.toInt32 &&& 255 = x &&& 255 := by
  apply Int32.toBitVec_inj.mp
  rw [Int32.toBitVec_and, Int32.toBitVec_and, Int8.toBitVec_toInt32, Int32.toBitVec_toInt8]
  apply BitVec.eq_of_getLsbD_eq
  intro i hi
  rw [BitVec.getLsbD_and, BitVec.getLsbD_and]
  have hm : ∀ i < 32, 8 ≤ i → (255 : Int32).toBitVec.getLsbD i = false := by decide
  rcases Nat.lt_or_ge i 8 with z | z
  · rw [BitVec.getLsbD_signExtend, BitVec.getLsbD_signExtend, if_pos z, if_pos hi]
    simp only [z, hi, decide_true, Bool.true_and]
  · rw [hm i hi z]; simp
theorem pk_nb (z : Int32) : narrow .byte (.int z.toInt8.toInt32) = .int z.toInt8.toInt32 := congrArg Value.int (by simp)
theorem pk_fb (r : Int32) : fits .byte (.int r.toInt8.toInt32) = true := by
  have ⟨a, b⟩ := lg_i2b_range r
  have h1 : (-128 : Int32).toInt = -128 := by decide
  have h2 : (127 : Int32).toInt = 127 := by decide
  simp only [fits, Bool.and_eq_true, decide_eq_true_eq, Int32.le_iff_toInt_le, h1, h2]
  omega
end
section
/-- the checksum's step: X masks before and behind, Y stores a byte; read by & 255 they stay alike -/
theorem ng_sum {s t x : Int32} (h : s &&& 255 = t &&& 255) : ((s ^^^ (x &&& 255)) &&& 255) &&& 255 = (t ^^^ x).toInt8.toInt32 &&& 255 := by
  rw [bp_b]
  apply b_ext
  intro i hi
  have hb : bt (s &&& 255) i = bt (t &&& 255) i := congrArg (fun z => bt z i) h
  simp only [b_and, b_255] at hb
  simp only [b_and, b_xor, b_255]
  generalize decide (i < 8) = d at hb ⊢
  cases d
  · simp
  · simp only [Bool.and_true] at hb ⊢
    rw [hb]
end
section
/-- phase, got, good, bad are the same; the phase is 0 .. 4; the sums agree in their low byte -/
def i_Rel (_ : Nat) (u : SX) (v : SY) : Prop := ∃ p s t g a b : Int32, u = (p, s, g, a, b) ∧ v = (p, t, g, a, b) ∧ (p = 0 ∨ p = 1 ∨ p = 2 ∨ p = 3 ∨ p = 4) ∧ s &&& 255 = t &&& 255
theorem i_up {k : Nat} {u : SX} {v : SY} (h : i_Rel k u v) : i_Rel (k + 2) u v := h
theorem ng_mk {k : Nat} {p s t g a b : Int32} (hp : p = 0 ∨ p = 1 ∨ p = 2 ∨ p = 3 ∨ p = 4) (hs : s &&& 255 = t &&& 255) : i_Rel k (p, s, g, a, b) (p, t, g, a, b) := ⟨p, s, t, g, a, b, rfl, rfl, hp, hs⟩
theorem i_vc0 : wpX_init (fun u => wpY_init (fun v => i_Rel 0 u v)) := @ng_mk 0 0 0 0 0 0 0 (Or.inl rfl) rfl
theorem ng_next {p : Int32} (hp : p = 2 ∨ p = 3) : p + 1 = 0 ∨ p + 1 = 1 ∨ p + 1 = 2 ∨ p + 1 = 3 ∨ p + 1 = 4 := by
  rcases hp with rfl | rfl
  · exact Or.inr (Or.inr (Or.inr (Or.inl (by decide))))
  · exact Or.inr (Or.inr (Or.inr (Or.inr (by decide))))
/-- a digit or -1 is known: store it, or count a bad one -/
theorem ng_dig {k : Nat} {p s t g a b : Int32} (x : Int32) (hp : p = 2 ∨ p = 3) (hs : s &&& 255 = t &&& 255) : ∃ (r : Int32) (u' : SX) (v' : SY), i_Rel k u' v' ∧ (∀ post : Int32 → SX → Prop, post r u' → wX_feed_199 post x p s g a b) ∧ (∀ post : Int32 → SY → Prop, post r v' → wY_feed_195 post x p t g a b) := by
  by_cases h : x < 0
  · exact ⟨-1, (0, s, g, a, b + 1), (0, t, g, a, b + 1), ng_mk (Or.inl rfl) hs, fun _ q => br_t h (nm_e q), fun _ q => br_t h (nm_e q)⟩
  · exact ⟨0, (p + 1, s, g * 16 + x, a, b), (p + 1, t, g * 16 + x, a, b), ng_mk (ng_next hp) hs, fun _ q => br_f h (nm_e (nm_e q)), fun _ q => br_f h (nm_e (nm_e q))⟩
/-- A .. F -/
theorem ng_up {k : Nat} {p s t g a b : Int32} (c x : Int32) (hp : p = 2 ∨ p = 3) (hs : s &&& 255 = t &&& 255) : ∃ (r : Int32) (u' : SX) (v' : SY), i_Rel k u' v' ∧ (∀ post : Int32 → SX → Prop, post r u' → wX_feed_179 post c x p s g a b) ∧ (∀ post : Int32 → SY → Prop, post r v' → wY_feed_175 post c x p t g a b) := by
  by_cases h : c < 65
  · obtain ⟨r, u', v', R, X, Y⟩ := ng_dig (k := k) (g := g) (a := a) (b := b) x hp hs
    exact ⟨r, u', v', R, fun _ q => br_t h (X _ q), fun _ q => br_t h (Y _ q)⟩
  · by_cases h' : 70 < c
    · obtain ⟨r, u', v', R, X, Y⟩ := ng_dig (k := k) (g := g) (a := a) (b := b) x hp hs
      exact ⟨r, u', v', R, fun _ q => br_f h (br_t h' (X _ q)), fun _ q => br_f h (br_t h' (Y _ q))⟩
    · obtain ⟨r, u', v', R, X, Y⟩ := ng_dig (k := k) (g := g) (a := a) (b := b) (c - 65 + 10) hp hs
      exact ⟨r, u', v', R, fun _ q => br_f h (br_f h' (nm_e (X _ q))), fun _ q => br_f h (br_f h' (nm_e (Y _ q)))⟩
/-- the hex digit in phase 2 or 3: X's join 157; Y's row behind its test of the phase -/
theorem ng_hex {k : Nat} {p s t g a b : Int32} (c : Int32) (hp : p = 2 ∨ p = 3) (hs : s &&& 255 = t &&& 255) : ∃ (r : Int32) (u' : SX) (v' : SY), i_Rel k u' v' ∧ (∀ post : Int32 → SX → Prop, post r u' → wX_feed_157 post c p s g a b) ∧ (∀ post : Int32 → SY → Prop, post r v' → ((c < 48 → wY_feed_175 post c (-1) p t g a b) ∧ (¬ c < 48 → ((57 < c → wY_feed_175 post c (-1) p t g a b) ∧ (¬ 57 < c → ∀ y : Int32, y = c - 48 → wY_feed_195 post y p t g a b))))) := by
  by_cases h : c < 48
  · obtain ⟨r, u', v', R, X, Y⟩ := ng_up (k := k) (g := g) (a := a) (b := b) c (-1) hp hs
    exact ⟨r, u', v', R, fun _ q => br_t h (X _ q), fun _ q => br_t h (Y _ q)⟩
  · by_cases h' : 57 < c
    · obtain ⟨r, u', v', R, X, Y⟩ := ng_up (k := k) (g := g) (a := a) (b := b) c (-1) hp hs
      exact ⟨r, u', v', R, fun _ q => br_f h (br_t h' (X _ q)), fun _ q => br_f h (br_t h' (Y _ q))⟩
    · obtain ⟨r, u', v', R, X, Y⟩ := ng_dig (k := k) (g := g) (a := a) (b := b) (c - 48) hp hs
      exact ⟨r, u', v', R, fun _ q => br_f h (br_f h' (nm_e (X _ q))), fun _ q => br_f h (br_f h' (nm_e (Y _ q)))⟩
/-- one call of feed: one outcome for both sides -/
theorem ng_feed {k : Nat} {p s t g a b : Int32} (c : Int32) (hp : p = 0 ∨ p = 1 ∨ p = 2 ∨ p = 3 ∨ p = 4) (hs : s &&& 255 = t &&& 255) : ∃ (r : Int32) (u' : SX) (v' : SY), i_Rel k u' v' ∧ (∀ post : Int32 → SX → Prop, post r u' → wpX_feed post (p, s, g, a, b) c) ∧ (∀ post : Int32 → SY → Prop, post r v' → wpY_feed post (p, t, g, a, b) c) := by
  by_cases h36 : c = 36
  · have h13 : ¬ c = 13 := by rw [h36]; decide
    refine ⟨0, (1, 0, 0, a, b), (1, 0, 0, a, b), ng_mk (Or.inr (Or.inl rfl)) rfl, fun _ q => br_t h36 q, fun _ q => ?_⟩
    by_cases h0 : p = 0
    · exact br_t h0 (br_t h36 (br_f h13 (br_t h36 q)))
    · exact br_f h0 (br_f h13 (br_t h36 q))
  by_cases h0 : p = 0
  · exact ⟨0, (p, s, g, a, b), (p, t, g, a, b), ng_mk hp hs, fun _ q => br_f h36 (br_t h0 q), fun _ q => br_t h0 (br_f h36 q)⟩
  by_cases h42 : c = 42
  · have h13 : ¬ c = 13 := by rw [h42]; decide
    by_cases h1 : p = 1
    · exact ⟨0, (2, s, g, a, b), (2, t, g, a, b), ng_mk (Or.inr (Or.inr (Or.inl rfl))) hs, fun _ q => br_f h36 (br_f h0 (br_t h42 (br_t h1 q))), fun _ q => br_f h0 (br_f h13 (br_f h36 (br_t h42 (br_t h1 q))))⟩
    · exact ⟨-1, (0, s, g, a, b + 1), (0, t, g, a, b + 1), ng_mk (Or.inl rfl) hs, fun _ q => br_f h36 (br_f h0 (br_t h42 (br_f h1 (br_f h13 (br_t h42 (nm_e q)))))), fun _ q => br_f h0 (br_f h13 (br_f h36 (br_t h42 (br_f h1 (nm_e q)))))⟩
  by_cases h13 : c = 13
  · by_cases h4 : p = 4
    · by_cases hg : g = s &&& 255
      · exact ⟨1, (0, s, g, a + 1, b), (0, t, g, a + 1, b), ng_mk (Or.inl rfl) hs, fun _ q => br_f h36 (br_f h0 (br_f h42 (br_t h13 (br_t h4 (br_t hg (nm_e q)))))), fun _ q => br_f h0 (br_t h13 (br_t h4 (br_t (hg.trans hs) (nm_e q))))⟩
      · have hg' : ¬ g = t &&& 255 := fun e => hg (e.trans hs.symm)
        exact ⟨-1, (0, s, g, a, b + 1), (0, t, g, a, b + 1), ng_mk (Or.inl rfl) hs, fun _ q => br_f h36 (br_f h0 (br_f h42 (br_t h13 (br_t h4 (br_f hg (br_f h42 (br_t h13 (nm_e q)))))))), fun _ q => br_f h0 (br_t h13 (br_t h4 (br_f hg' (nm_e q))))⟩
    · exact ⟨-1, (0, s, g, a, b + 1), (0, t, g, a, b + 1), ng_mk (Or.inl rfl) hs, fun _ q => br_f h36 (br_f h0 (br_f h42 (br_t h13 (br_f h4 (br_f h42 (br_t h13 (nm_e q))))))), fun _ q => br_f h0 (br_t h13 (br_f h4 (nm_e q)))⟩
  by_cases h1 : p = 1
  · exact ⟨0, (p, (s ^^^ (c &&& 255)) &&& 255, g, a, b), (p, (t ^^^ c).toInt8.toInt32, g, a, b), ng_mk hp (ng_sum hs), fun _ q => br_f h36 (br_f h0 (br_f h42 (br_f h13 (br_f h42 (br_f h13 (br_t h1 (nm_e q))))))), fun _ q => br_f h0 (br_f h13 (br_f h36 (br_f h42 (br_t h1 (nm_e ⟨pk_nb _, pk_fb _, q⟩)))))⟩
  by_cases h23 : p = 2 ∨ p = 3
  · obtain ⟨r, u', v', R, X, Y⟩ := ng_hex (k := k) (g := g) (a := a) (b := b) c h23 hs
    have hn : ¬ (4 : Int32) ≤ p := by rcases h23 with rfl | rfl <;> decide
    refine ⟨r, u', v', R, fun post q => br_f h36 (br_f h0 (br_f h42 (br_f h13 (br_f h42 (br_f h13 (br_f h1 ?_)))))), fun post q => br_f h0 (br_f h13 (br_f h36 (br_f h42 (br_f h1 (br_f hn (Y post q))))))⟩
    by_cases h2 : p = 2
    · exact br_t h2 (X post q)
    · exact br_f h2 (br_t (h23.resolve_left h2) (X post q))
  · have h2 : ¬ p = 2 := fun e => h23 (Or.inl e)
    have h3 : ¬ p = 3 := fun e => h23 (Or.inr e)
    have hn : (4 : Int32) ≤ p := by
      rcases hp with e | e | e | e | e
      · exact absurd e h0
      · exact absurd e h1
      · exact absurd e h2
      · exact absurd e h3
      · rw [e]; decide
    exact ⟨-1, (0, s, g, a, b + 1), (0, t, g, a, b + 1), ng_mk (Or.inl rfl) hs, fun _ q => br_f h36 (br_f h0 (br_f h42 (br_f h13 (br_f h42 (br_f h13 (br_f h1 (br_f h2 (br_f h3 (nm_e q))))))))), fun _ q => br_f h0 (br_f h13 (br_f h36 (br_f h42 (br_f h1 (br_t hn (nm_e q))))))⟩
theorem i_vc_feed {k : Nat} {u : SX} {v : SY} (I : i_Rel k u v) (hk : k + 2 ≤ 1024) (v1 : Int32) : wpX_feed (fun r u' => wpY_feed (fun r' v' => r' = r ∧ i_Rel (k + 2) u' v') v (lw_u16 v1)) u (lw_u16 v1) := by
  obtain ⟨p, s, t, g, a, b, rfl, rfl, hp, hs⟩ := I
  obtain ⟨r, u', v', R, X, Y⟩ := ng_feed (k := k + 2) (g := g) (a := a) (b := b) (lw_u16 v1) hp hs
  exact X _ (Y _ (And.intro rfl R))
theorem i_vc_good {k : Nat} {u : SX} {v : SY} (I : i_Rel k u v) (hk : k + 2 ≤ 1024) : wpX_good (fun r => wpY_good (fun r' => r' = r ∧ i_Rel (k + 2) u v) v) u := by
  obtain ⟨p, s, t, g, a, b, rfl, rfl, hp, hs⟩ := I
  exact And.intro rfl (ng_mk hp hs)
theorem i_vc_bad {k : Nat} {u : SX} {v : SY} (I : i_Rel k u v) (hk : k + 2 ≤ 1024) : wpX_bad (fun r => wpY_bad (fun r' => r' = r ∧ i_Rel (k + 2) u v) v) u := by
  obtain ⟨p, s, t, g, a, b, rfl, rfl, hp, hs⟩ := I
  exact And.intro rfl (ng_mk hp hs)
end
