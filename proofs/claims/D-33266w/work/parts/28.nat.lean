/-! PART nat: heaps whose numbers are naturals (written by gen/natgen.py) -/
def upN (f : Nat → Nat) (i x : Nat) : Nat → Nat := fun q => if q = i then x else f q
def uN (N : Nat → Nat → Nat) (k i x : Nat) : Nat → Nat → Nat := fun j => if j = k then upN (N k) i x else N j
def uG (G : Nat → Nat) (k x : Nat) : Nat → Nat := fun j => if j = k then x else G j
theorem upN_app {f : Nat → Nat} {i x q : Nat} : upN f i x q = if q = i then x else f q := rfl
theorem uN_s {N : Nat → Nat → Nat} {k i x : Nat} : uN N k i x k = upN (N k) i x := if_pos rfl
theorem uN_n {N : Nat → Nat → Nat} {k i x j : Nat} (h : j ≠ k) : uN N k i x j = N j := if_neg h
theorem uG_s {G : Nat → Nat} {k x : Nat} : uG G k x k = x := if_pos rfl
theorem uG_n {G : Nat → Nat} {k x j : Nat} (h : j ≠ k) : uG G k x j = G j := if_neg h
theorem uG_uG {G : Nat → Nat} {k x z : Nat} : uG (uG G k x) k z = uG G k z := by
  funext j
  unfold uG
  split <;> rfl
theorem uG_F {G : Nat → Nat} {k x : Nat} : uF (fun k => nI (G k)) k (nI x) = fun j => nI (uG G k x j) := by
  funext j
  unfold uF uG
  split <;> rfl
theorem uN_A {N : Nat → Nat → Nat} {k i x : Nat} : uA (fun j i => nI (N j i)) k i (nI x) = fun j q => nI (uN N k i x j q) := by
  funext j q
  unfold uA uN upd upN
  by_cases e : j = k
  · rw [if_pos e, if_pos e]
    by_cases e2 : q = i
    · rw [if_pos e2, if_pos e2]
    · rw [if_neg e2, if_neg e2]
  · rw [if_neg e, if_neg e]
theorem q_mul (a b : Nat) : nI a * nI b = nI (a * b) := (Int32.ofNat_mul a b).symm
theorem q_sub {a b : Nat} (h : b ≤ a) : nI a - nI b = nI (a - b) := by
  have e : nI a = nI (a - b) + nI b := by rw [nI_add, Nat.sub_add_cancel h]
  rw [e, Int32.add_sub_cancel]
theorem q_eq {a b : Nat} (ha : a < 2147483648) (hb : b < 2147483648) : (nI a = nI b) = (a = b) := by
  apply propext
  constructor
  · intro e
    have := congrArg Int32.toInt e
    rw [nI_toInt ha, nI_toInt hb] at this
    omega
  · intro e; rw [e]
theorem q_eqz {a : Nat} (ha : a < 2147483648) : (nI a = 0) = (a = 0) := q_eq (b := 0) ha (by omega)
theorem q_lt {a b : Nat} (ha : a < 2147483648) (hb : b < 2147483648) : (nI a < nI b) = (a < b) := by
  apply propext
  rw [Int32.lt_iff_toInt_lt, nI_toInt ha, nI_toInt hb]
  omega
theorem q_ltz {a : Nat} (ha : a < 2147483648) : (nI a < 0) = False := by
  have := q_lt (b := 0) ha (by omega)
  exact this.trans (eq_false (by omega))
theorem q_gtz {a : Nat} (ha : a < 2147483648) : (0 < nI a) = (0 < a) := q_lt (a := 0) (by omega) ha
theorem q_le {a b : Nat} (ha : a < 2147483648) (hb : b < 2147483648) : (nI a ≤ nI b) = (a ≤ b) := by
  apply propext
  rw [Int32.le_iff_toInt_le, nI_toInt ha, nI_toInt hb]
  omega
theorem q_lez {a : Nat} (ha : a < 2147483648) : (0 ≤ nI a) = True := (q_le (a := 0) (by omega) ha).trans (eq_true (Nat.zero_le a))
theorem q_m1 : (-1 : Int32) = nI 4294967295 := rfl
/-- a code of -1 is no number -/
theorem q_eqm {a : Nat} (ha : a < 2147483648) : (nI a = nI 4294967295) = False := by
  refine eq_false fun e => ?_
  have := congrArg Int32.toInt e
  rw [nI_toInt ha, show (nI 4294967295).toInt = -1 from rfl] at this
  omega
theorem q_meq {a : Nat} (ha : a < 2147483648) : (nI 4294967295 = nI a) = False := by
  rw [show (nI 4294967295 = nI a) = (nI a = nI 4294967295) from propext ⟨Eq.symm, Eq.symm⟩, q_eqm ha]
theorem q_mm : (nI 4294967295 = nI 4294967295) = True := eq_true rfl
theorem q_mlt : (nI 4294967295 < 0) = True := eq_true (by decide)
theorem q_mgt : (0 < nI 4294967295) = False := eq_false (by decide)
theorem q_mlt2 {a : Nat} (ha : a < 2147483648) : (nI a < nI 4294967295) = False := by
  refine eq_false fun e => ?_
  rw [Int32.lt_iff_toInt_lt, nI_toInt ha, show (nI 4294967295).toInt = -1 from rfl] at e
  omega
theorem q_div {a b : Nat} (ha : a < 2147483648) (hb : b < 2147483648) : nI a / nI b = nI (a / b) := by
  apply Int32.toInt_inj.mp
  have h1 : a / b < 2147483648 := Nat.lt_of_le_of_lt (Nat.div_le_self a b) ha
  have h2 : (nI a).toInt ≠ Int32.minValue.toInt := by
    rw [nI_toInt ha]; show (a : Int) ≠ -2147483648; omega
  rw [Int32.toInt_div_of_ne_left _ _ (fun e => h2 (congrArg Int32.toInt e)), nI_toInt ha, nI_toInt hb, nI_toInt h1]
  exact (Int.ofNat_tdiv a b).symm
theorem q_or (a b : Nat) : nI a ||| nI b = nI (a ||| b) := Int32.toBitVec_inj.mp (BitVec.ofNat_or (w := 32)).symm
theorem q_and (a b : Nat) : nI a &&& nI b = nI (a &&& b) := Int32.toBitVec_inj.mp (BitVec.ofNat_and (w := 32)).symm
theorem q_31 {a : Nat} (ha : a < 31) : nI a &&& 31 = nI a := by
  rw [show (31 : Int32) = nI 31 from rfl, q_and, Nat.and_two_pow_sub_one_eq_mod a 5, Nat.mod_eq_of_lt (by omega)]
theorem q_shl {a : Nat} (ha : a < 31) : nI 1 <<< (nI a &&& 31) = nI (2 ^ a) := by
  have h : ∀ a, a < 31 → nI 1 <<< (nI a &&& 31) = nI (2 ^ a) := by decide
  exact h a ha
theorem q_shr {a b : Nat} (ha : a < 2147483648) (hb : b < 31) : nI a >>> (nI b &&& 31) = nI (a >>> b) := by
  rw [q_31 hb]
  have hm : ∀ b, b < 31 → ((nI b).toBitVec.smod 32).toNat = b := by decide
  apply Int32.toBitVec_inj.mp
  rw [Int32.toBitVec_shiftRight, BitVec.sshiftRight_eq', hm b hb]
  apply BitVec.toInt_inj.mp
  rw [BitVec.toInt_sshiftRight]
  have e1 : (nI a).toBitVec.toInt = a := nI_toInt ha
  have h2 : a >>> b < 2147483648 := Nat.lt_of_le_of_lt (by rw [Nat.shiftRight_eq_div_pow]; exact Nat.div_le_self _ _) ha
  have e2 : (nI (a >>> b)).toBitVec.toInt = (a >>> b : Nat) := nI_toInt h2
  rw [e1, e2]
  rfl
theorem q_ltT {a b : Nat} (h : a < b) : (a < b) = True := eq_true h
theorem q_ltF {a b : Nat} (h : ¬ a < b) : (a < b) = False := eq_false h
theorem q_leT {a b : Nat} (h : a ≤ b) : (a ≤ b) = True := eq_true h
theorem q_leF {a b : Nat} (h : ¬ a ≤ b) : (a ≤ b) = False := eq_false h
theorem q_eqT {a b : Nat} (h : a = b) : (a = b) = True := eq_true h
theorem q_eqF {a b : Nat} (h : ¬ a = b) : (a = b) = False := eq_false h
theorem q_dec {a : Nat} (h : 1 ≤ a) : nI (a + 4294967295) = nI (a - 1) := by
  have e : a + 4294967295 = (a - 1) + 4294967296 := by omega
  rw [e, ← nI_add, show nI 4294967296 = 0 from rfl, Int32.add_zero]
theorem q_bit (x a : Nat) : (x >>> a) &&& 1 = (x.testBit a).toNat := by
  rw [Nat.and_one_is_mod, Nat.shiftRight_eq_div_pow, Nat.toNat_testBit]
theorem q_in {x : Int32} {n : Nat} (hn : n < 2147483648) : (∃ b, b < n ∧ x = nI b) ∨ (∀ b, b < n → x ≠ nI b) ∧ (x < 0 ∨ nI n - nI 1 < x) := by
  by_cases c : ∃ b, b < n ∧ x = nI b
  · exact Or.inl c
  · refine Or.inr ⟨fun b hb e => c ⟨b, hb, e⟩, ?_⟩
    by_cases c1 : x < 0
    · exact Or.inl c1
    · right
      have h0 : 0 ≤ x.toInt := by
        rw [Int32.lt_iff_toInt_lt, show (0 : Int32).toInt = 0 from rfl] at c1
        omega
      have hx : x = nI x.toInt.toNat := by
        apply Int32.toInt_inj.mp
        have := Int32.toInt_lt x
        rw [nI_toInt (by omega)]
        omega
      have hge : n ≤ x.toInt.toNat := Nat.le_of_not_lt fun z => c ⟨_, z, hx⟩
      rw [Int32.lt_iff_toInt_lt]
      by_cases z : n = 0
      · subst z
        rw [show (nI 0 - nI 1).toInt = -1 from rfl]
        omega
      · rw [q_sub (by omega), nI_toInt (by omega)]
        omega
/-- a loop of so many rounds -/
theorem l_for {σ R : Type} (f : Nat → σ → R) (I : Nat → σ → Prop) (n : Nat) (hs : ∀ k x, k < n → I k x → ∃ y, I (k+1) y ∧ f k x = f (k+1) y) : ∀ r k x, k + r = n → I k x → ∃ y, I n y ∧ f k x = f n y
  | 0, k, x, e, i => ⟨x, by have e : k = n := by omega
                            subst e; exact ⟨i, rfl⟩⟩
  | r+1, k, x, e, i => by
    have ⟨y, i1, e1⟩ := hs k x (by omega) i
    have ⟨z, i2, e2⟩ := l_for f I n hs r (k+1) y (by omega) i1
    exact ⟨z, i2, e1.trans e2⟩
/-- a loop with a measure -/
theorem l_whl {σ R : Type} (f g : σ → R) (I J : σ → Prop) (μ : σ → Nat) (hs : ∀ x, I x → (J x ∧ f x = g x) ∨ ∃ y, I y ∧ μ y < μ x ∧ f x = f y) : ∀ n x, μ x ≤ n → I x → ∃ y, J y ∧ f x = g y
  | n, x, e, i => by
    rcases hs x i with ⟨h1, h2⟩ | ⟨y, i1, m, e1⟩
    · exact ⟨x, h1, h2⟩
    · match n with
      | 0 => omega
      | n+1 =>
        have ⟨z, i2, e2⟩ := l_whl f g I J μ hs n y (by omega) i1
        exact ⟨z, i2, e1.trans e2⟩
/-- the heap whose object's numbers are naturals -/
def wN (h : a_H) (m : Nat) (G : Nat → Nat) (N : Nat → Nat → Nat) : a_H := wM h m (fun k => nI (G k)) (fun j i => nI (N j i))
section
variable {h : a_H} {m : Nat} {G : Nat → Nat} {N : Nat → Nat → Nat}
theorem wN_kls (hm : 1024 ≤ m) : a_kls (wN h m G N) m = some 2 := wM_kls hm
theorem wN_1 : (wN h m G N).1 = h.1 := rfl
theorem wN_2 : (wN h m G N).2.1 = h.2.1 := rfl
theorem wN_out {q : Nat} (hq : q < m ∨ m + 19 < q) : (wN h m G N).2.2 q = h.2.2 q := wM_out hq
theorem wN_arr {k : Nat} (hk : k < 19) : (wN h m G N).2.2 (m + (k + 1)) = .inl (.int, wMN k, .inl fun i => nI (N k i)) := wM_arr hk
theorem wN_obj : (wN h m G N).2.2 m = .inr (2, wMF m fun k => nI (G k)) := wM_obj
theorem wNg_s (hm : 1024 ≤ m) : a_gf (wN h m G N) m 0 [2] = some (.ref (m + 1)) := wMg_s hm
theorem wNg_past (hm : 1024 ≤ m) : a_gf (wN h m G N) m 1 [2] = some (.ref (m + 2)) := wMg_past hm
theorem wNg_kept (hm : 1024 ≤ m) : a_gf (wN h m G N) m 2 [2] = some (.ref (m + 3)) := wMg_kept hm
theorem wNg_aside (hm : 1024 ≤ m) : a_gf (wN h m G N) m 3 [2] = some (.ref (m + 4)) := wMg_aside hm
theorem wNg_lay (hm : 1024 ≤ m) : a_gf (wN h m G N) m 4 [2] = some (.ref (m + 5)) := wMg_lay hm
theorem wNg_start (hm : 1024 ≤ m) : a_gf (wN h m G N) m 5 [2] = some (.ref (m + 6)) := wMg_start hm
theorem wNg_count (hm : 1024 ≤ m) : a_gf (wN h m G N) m 6 [2] = some (.ref (m + 7)) := wMg_count hm
theorem wNg_deep (hm : 1024 ≤ m) : a_gf (wN h m G N) m 7 [2] = some (.int (nI (G 7))) := wMg_deep hm
theorem wNp_deep (hm : 1024 ≤ m) (x : Nat) : a_pf (wN h m G N) m 7 [2] (.int (nI x)) = some (wN h m (uG G 7 x) N) := (wMp_deep hm (nI x)).trans (congrArg (fun z => some (wM h m z _)) uG_F)
theorem wNg_near (hm : 1024 ≤ m) : a_gf (wN h m G N) m 8 [2] = some (.ref (m + 8)) := wMg_near hm
theorem wNg_medians (hm : 1024 ≤ m) : a_gf (wN h m G N) m 9 [2] = some (.ref (m + 9)) := wMg_medians hm
theorem wNg_points (hm : 1024 ≤ m) : a_gf (wN h m G N) m 10 [2] = some (.ref (m + 10)) := wMg_points hm
theorem wNg_columns (hm : 1024 ≤ m) : a_gf (wN h m G N) m 11 [2] = some (.ref (m + 11)) := wMg_columns hm
theorem wNg_upper (hm : 1024 ≤ m) : a_gf (wN h m G N) m 12 [2] = some (.ref (m + 12)) := wMg_upper hm
theorem wNg_lower (hm : 1024 ≤ m) : a_gf (wN h m G N) m 13 [2] = some (.ref (m + 13)) := wMg_lower hm
theorem wNg_heard (hm : 1024 ≤ m) : a_gf (wN h m G N) m 14 [2] = some (.ref (m + 14)) := wMg_heard hm
theorem wNg_walks (hm : 1024 ≤ m) : a_gf (wN h m G N) m 15 [2] = some (.ref (m + 15)) := wMg_walks hm
theorem wNg_spare (hm : 1024 ≤ m) : a_gf (wN h m G N) m 16 [2] = some (.ref (m + 16)) := wMg_spare hm
theorem wNg_best (hm : 1024 ≤ m) : a_gf (wN h m G N) m 17 [2] = some (.ref (m + 17)) := wMg_best hm
theorem wNg_isKept (hm : 1024 ≤ m) : a_gf (wN h m G N) m 18 [2] = some (.int (nI (G 18))) := wMg_isKept hm
theorem wNp_isKept (hm : 1024 ≤ m) (x : Nat) : a_pf (wN h m G N) m 18 [2] (.int (nI x)) = some (wN h m (uG G 18 x) N) := (wMp_isKept hm (nI x)).trans (congrArg (fun z => some (wM h m z _)) uG_F)
theorem wNg_pasts (hm : 1024 ≤ m) : a_gf (wN h m G N) m 19 [2] = some (.int (nI (G 19))) := wMg_pasts hm
theorem wNp_pasts (hm : 1024 ≤ m) (x : Nat) : a_pf (wN h m G N) m 19 [2] (.int (nI x)) = some (wN h m (uG G 19 x) N) := (wMp_pasts hm (nI x)).trans (congrArg (fun z => some (wM h m z _)) uG_F)
theorem wNg_runs (hm : 1024 ≤ m) : a_gf (wN h m G N) m 20 [2] = some (.int (nI (G 20))) := wMg_runs hm
theorem wNp_runs (hm : 1024 ≤ m) (x : Nat) : a_pf (wN h m G N) m 20 [2] (.int (nI x)) = some (wN h m (uG G 20 x) N) := (wMp_runs hm (nI x)).trans (congrArg (fun z => some (wM h m z _)) uG_F)
theorem wNg_last (hm : 1024 ≤ m) : a_gf (wN h m G N) m 21 [2] = some (.int (nI (G 21))) := wMg_last hm
theorem wNp_last (hm : 1024 ≤ m) (x : Nat) : a_pf (wN h m G N) m 21 [2] (.int (nI x)) = some (wN h m (uG G 21 x) N) := (wMp_last hm (nI x)).trans (congrArg (fun z => some (wM h m z _)) uG_F)
theorem wNg_text (hm : 1024 ≤ m) : a_gf (wN h m G N) m 22 [2] = some (.ref (m + 18)) := wMg_text hm
theorem wNg_typed (hm : 1024 ≤ m) : a_gf (wN h m G N) m 23 [2] = some (.int (nI (G 23))) := wMg_typed hm
theorem wNp_typed (hm : 1024 ≤ m) (x : Nat) : a_pf (wN h m G N) m 23 [2] (.int (nI x)) = some (wN h m (uG G 23 x) N) := (wMp_typed hm (nI x)).trans (congrArg (fun z => some (wM h m z _)) uG_F)
theorem wNg_spot (hm : 1024 ≤ m) : a_gf (wN h m G N) m 24 [2] = some (.int (nI (G 24))) := wMg_spot hm
theorem wNp_spot (hm : 1024 ≤ m) (x : Nat) : a_pf (wN h m G N) m 24 [2] (.int (nI x)) = some (wN h m (uG G 24 x) N) := (wMp_spot hm (nI x)).trans (congrArg (fun z => some (wM h m z _)) uG_F)
theorem wNg_from (hm : 1024 ≤ m) : a_gf (wN h m G N) m 25 [2] = some (.int (nI (G 25))) := wMg_from hm
theorem wNp_from (hm : 1024 ≤ m) (x : Nat) : a_pf (wN h m G N) m 25 [2] (.int (nI x)) = some (wN h m (uG G 25 x) N) := (wMp_from hm (nI x)).trans (congrArg (fun z => some (wM h m z _)) uG_F)
theorem wNg_reason (hm : 1024 ≤ m) : a_gf (wN h m G N) m 26 [2] = some (.int (nI (G 26))) := wMg_reason hm
theorem wNp_reason (hm : 1024 ≤ m) (x : Nat) : a_pf (wN h m G N) m 26 [2] (.int (nI x)) = some (wN h m (uG G 26 x) N) := (wMp_reason hm (nI x)).trans (congrArg (fun z => some (wM h m z _)) uG_F)
theorem wNg_cause (hm : 1024 ≤ m) : a_gf (wN h m G N) m 27 [2] = some (.int (nI (G 27))) := wMg_cause hm
theorem wNp_cause (hm : 1024 ≤ m) (x : Nat) : a_pf (wN h m G N) m 27 [2] (.int (nI x)) = some (wN h m (uG G 27 x) N) := (wMp_cause hm (nI x)).trans (congrArg (fun z => some (wM h m z _)) uG_F)
theorem wNg_orders (hm : 1024 ≤ m) : a_gf (wN h m G N) m 28 [2] = some (.int (nI (G 28))) := wMg_orders hm
theorem wNp_orders (hm : 1024 ≤ m) (x : Nat) : a_pf (wN h m G N) m 28 [2] (.int (nI x)) = some (wN h m (uG G 28 x) N) := (wMp_orders hm (nI x)).trans (congrArg (fun z => some (wM h m z _)) uG_F)
theorem wNg_letter (hm : 1024 ≤ m) : a_gf (wN h m G N) m 29 [2] = some (.int (nI (G 29))) := wMg_letter hm
theorem wNp_letter (hm : 1024 ≤ m) (x : Nat) : a_pf (wN h m G N) m 29 [2] (.int (nI x)) = some (wN h m (uG G 29 x) N) := (wMp_letter hm (nI x)).trans (congrArg (fun z => some (wM h m z _)) uG_F)
theorem wNg_numbers (hm : 1024 ≤ m) : a_gf (wN h m G N) m 30 [2] = some (.ref (m + 19)) := wMg_numbers hm
theorem wNr_s {i : Nat} (hm : 1024 ≤ m) (hi : i < 800) : a_rdi (wN h m G N) (m + 1) a_int (nI i) = some (.int (nI (N 0 i))) := wMr_s hm hi
theorem wNw_s {i x : Nat} (hm : 1024 ≤ m) (hi : i < 800) : a_wri (wN h m G N) (m + 1) a_int (nI i) (nI x) = some (wN h m G (uN N 0 i x)) := (wMw_s hm hi).trans (congrArg (fun z => some (wM h m _ z)) uN_A)
theorem wNr_past {i : Nat} (hm : 1024 ≤ m) (hi : i < 3200) : a_rdi (wN h m G N) (m + 2) a_int (nI i) = some (.int (nI (N 1 i))) := wMr_past hm hi
theorem wNw_past {i x : Nat} (hm : 1024 ≤ m) (hi : i < 3200) : a_wri (wN h m G N) (m + 2) a_int (nI i) (nI x) = some (wN h m G (uN N 1 i x)) := (wMw_past hm hi).trans (congrArg (fun z => some (wM h m _ z)) uN_A)
theorem wNr_kept {i : Nat} (hm : 1024 ≤ m) (hi : i < 800) : a_rdi (wN h m G N) (m + 3) a_int (nI i) = some (.int (nI (N 2 i))) := wMr_kept hm hi
theorem wNw_kept {i x : Nat} (hm : 1024 ≤ m) (hi : i < 800) : a_wri (wN h m G N) (m + 3) a_int (nI i) (nI x) = some (wN h m G (uN N 2 i x)) := (wMw_kept hm hi).trans (congrArg (fun z => some (wM h m _ z)) uN_A)
theorem wNr_aside {i : Nat} (hm : 1024 ≤ m) (hi : i < 800) : a_rdi (wN h m G N) (m + 4) a_int (nI i) = some (.int (nI (N 3 i))) := wMr_aside hm hi
theorem wNw_aside {i x : Nat} (hm : 1024 ≤ m) (hi : i < 800) : a_wri (wN h m G N) (m + 4) a_int (nI i) (nI x) = some (wN h m G (uN N 3 i x)) := (wMw_aside hm hi).trans (congrArg (fun z => some (wM h m _ z)) uN_A)
theorem wNr_lay {i : Nat} (hm : 1024 ≤ m) (hi : i < 16) : a_rdi (wN h m G N) (m + 5) a_int (nI i) = some (.int (nI (N 4 i))) := wMr_lay hm hi
theorem wNw_lay {i x : Nat} (hm : 1024 ≤ m) (hi : i < 16) : a_wri (wN h m G N) (m + 5) a_int (nI i) (nI x) = some (wN h m G (uN N 4 i x)) := (wMw_lay hm hi).trans (congrArg (fun z => some (wM h m _ z)) uN_A)
theorem wNr_start {i : Nat} (hm : 1024 ≤ m) (hi : i < 26) : a_rdi (wN h m G N) (m + 6) a_int (nI i) = some (.int (nI (N 5 i))) := wMr_start hm hi
theorem wNw_start {i x : Nat} (hm : 1024 ≤ m) (hi : i < 26) : a_wri (wN h m G N) (m + 6) a_int (nI i) (nI x) = some (wN h m G (uN N 5 i x)) := (wMw_start hm hi).trans (congrArg (fun z => some (wM h m _ z)) uN_A)
theorem wNr_count {i : Nat} (hm : 1024 ≤ m) (hi : i < 26) : a_rdi (wN h m G N) (m + 7) a_int (nI i) = some (.int (nI (N 6 i))) := wMr_count hm hi
theorem wNw_count {i x : Nat} (hm : 1024 ≤ m) (hi : i < 26) : a_wri (wN h m G N) (m + 7) a_int (nI i) (nI x) = some (wN h m G (uN N 6 i x)) := (wMw_count hm hi).trans (congrArg (fun z => some (wM h m _ z)) uN_A)
theorem wNr_near {i : Nat} (hm : 1024 ≤ m) (hi : i < 30) : a_rdi (wN h m G N) (m + 8) a_int (nI i) = some (.int (nI (N 7 i))) := wMr_near hm hi
theorem wNw_near {i x : Nat} (hm : 1024 ≤ m) (hi : i < 30) : a_wri (wN h m G N) (m + 8) a_int (nI i) (nI x) = some (wN h m G (uN N 7 i x)) := (wMw_near hm hi).trans (congrArg (fun z => some (wM h m _ z)) uN_A)
theorem wNr_medians {i : Nat} (hm : 1024 ≤ m) (hi : i < 60) : a_rdi (wN h m G N) (m + 9) a_int (nI i) = some (.int (nI (N 8 i))) := wMr_medians hm hi
theorem wNw_medians {i x : Nat} (hm : 1024 ≤ m) (hi : i < 60) : a_wri (wN h m G N) (m + 9) a_int (nI i) (nI x) = some (wN h m G (uN N 8 i x)) := (wMw_medians hm hi).trans (congrArg (fun z => some (wM h m _ z)) uN_A)
theorem wNr_points {i : Nat} (hm : 1024 ≤ m) (hi : i < 60) : a_rdi (wN h m G N) (m + 10) a_int (nI i) = some (.int (nI (N 9 i))) := wMr_points hm hi
theorem wNw_points {i x : Nat} (hm : 1024 ≤ m) (hi : i < 60) : a_wri (wN h m G N) (m + 10) a_int (nI i) (nI x) = some (wN h m G (uN N 9 i x)) := (wMw_points hm hi).trans (congrArg (fun z => some (wM h m _ z)) uN_A)
theorem wNr_columns {i : Nat} (hm : 1024 ≤ m) (hi : i < 720) : a_rdi (wN h m G N) (m + 11) a_int (nI i) = some (.int (nI (N 10 i))) := wMr_columns hm hi
theorem wNw_columns {i x : Nat} (hm : 1024 ≤ m) (hi : i < 720) : a_wri (wN h m G N) (m + 11) a_int (nI i) (nI x) = some (wN h m G (uN N 10 i x)) := (wMw_columns hm hi).trans (congrArg (fun z => some (wM h m _ z)) uN_A)
theorem wNr_upper {i : Nat} (hm : 1024 ≤ m) (hi : i < 30) : a_rdi (wN h m G N) (m + 12) a_int (nI i) = some (.int (nI (N 11 i))) := wMr_upper hm hi
theorem wNw_upper {i x : Nat} (hm : 1024 ≤ m) (hi : i < 30) : a_wri (wN h m G N) (m + 12) a_int (nI i) (nI x) = some (wN h m G (uN N 11 i x)) := (wMw_upper hm hi).trans (congrArg (fun z => some (wM h m _ z)) uN_A)
theorem wNr_lower {i : Nat} (hm : 1024 ≤ m) (hi : i < 30) : a_rdi (wN h m G N) (m + 13) a_int (nI i) = some (.int (nI (N 12 i))) := wMr_lower hm hi
theorem wNw_lower {i x : Nat} (hm : 1024 ≤ m) (hi : i < 30) : a_wri (wN h m G N) (m + 13) a_int (nI i) (nI x) = some (wN h m G (uN N 12 i x)) := (wMw_lower hm hi).trans (congrArg (fun z => some (wM h m _ z)) uN_A)
theorem wNr_heard {i : Nat} (hm : 1024 ≤ m) (hi : i < 16) : a_rdi (wN h m G N) (m + 14) a_int (nI i) = some (.int (nI (N 13 i))) := wMr_heard hm hi
theorem wNw_heard {i x : Nat} (hm : 1024 ≤ m) (hi : i < 16) : a_wri (wN h m G N) (m + 14) a_int (nI i) (nI x) = some (wN h m G (uN N 13 i x)) := (wMw_heard hm hi).trans (congrArg (fun z => some (wM h m _ z)) uN_A)
theorem wNr_walks {i : Nat} (hm : 1024 ≤ m) (hi : i < 16) : a_rdi (wN h m G N) (m + 15) a_int (nI i) = some (.int (nI (N 14 i))) := wMr_walks hm hi
theorem wNw_walks {i x : Nat} (hm : 1024 ≤ m) (hi : i < 16) : a_wri (wN h m G N) (m + 15) a_int (nI i) (nI x) = some (wN h m G (uN N 14 i x)) := (wMw_walks hm hi).trans (congrArg (fun z => some (wM h m _ z)) uN_A)
theorem wNr_spare {i : Nat} (hm : 1024 ≤ m) (hi : i < 720) : a_rdi (wN h m G N) (m + 16) a_int (nI i) = some (.int (nI (N 15 i))) := wMr_spare hm hi
theorem wNw_spare {i x : Nat} (hm : 1024 ≤ m) (hi : i < 720) : a_wri (wN h m G N) (m + 16) a_int (nI i) (nI x) = some (wN h m G (uN N 15 i x)) := (wMw_spare hm hi).trans (congrArg (fun z => some (wM h m _ z)) uN_A)
theorem wNr_best {i : Nat} (hm : 1024 ≤ m) (hi : i < 720) : a_rdi (wN h m G N) (m + 17) a_int (nI i) = some (.int (nI (N 16 i))) := wMr_best hm hi
theorem wNw_best {i x : Nat} (hm : 1024 ≤ m) (hi : i < 720) : a_wri (wN h m G N) (m + 17) a_int (nI i) (nI x) = some (wN h m G (uN N 16 i x)) := (wMw_best hm hi).trans (congrArg (fun z => some (wM h m _ z)) uN_A)
theorem wNr_text {i : Nat} (hm : 1024 ≤ m) (hi : i < 60) : a_rdi (wN h m G N) (m + 18) a_int (nI i) = some (.int (nI (N 17 i))) := wMr_text hm hi
theorem wNw_text {i x : Nat} (hm : 1024 ≤ m) (hi : i < 60) : a_wri (wN h m G N) (m + 18) a_int (nI i) (nI x) = some (wN h m G (uN N 17 i x)) := (wMw_text hm hi).trans (congrArg (fun z => some (wM h m _ z)) uN_A)
theorem wNr_numbers {i : Nat} (hm : 1024 ≤ m) (hi : i < 2) : a_rdi (wN h m G N) (m + 19) a_int (nI i) = some (.int (nI (N 18 i))) := wMr_numbers hm hi
theorem wNw_numbers {i x : Nat} (hm : 1024 ≤ m) (hi : i < 2) : a_wri (wN h m G N) (m + 19) a_int (nI i) (nI x) = some (wN h m G (uN N 18 i x)) := (wMw_numbers hm hi).trans (congrArg (fun z => some (wM h m _ z)) uN_A)
end
/-- the heap whose object's numbers are naturals -/
def wE (h : a_H) (m : Nat) (G : Nat → Nat) (N : Nat → Nat → Nat) : a_H := wD h m (fun k => nI (G k)) (fun j i => nI (N j i))
section
variable {h : a_H} {m : Nat} {G : Nat → Nat} {N : Nat → Nat → Nat}
theorem wE_kls (hm : 1024 ≤ m) : a_kls (wE h m G N) m = some 1 := wD_kls hm
theorem wE_1 : (wE h m G N).1 = h.1 := rfl
theorem wE_2 : (wE h m G N).2.1 = h.2.1 := rfl
theorem wE_out {q : Nat} (hq : q < m ∨ m + 11 < q) : (wE h m G N).2.2 q = h.2.2 q := wD_out hq
theorem wE_arr {k : Nat} (hk : k < 11) : (wE h m G N).2.2 (m + (k + 1)) = .inl (.int, wDN k, .inl fun i => nI (N k i)) := wD_arr hk
theorem wE_obj : (wE h m G N).2.2 m = .inr (1, wDF m fun k => nI (G k)) := wD_obj
theorem wEg_froms (hm : 1024 ≤ m) : a_gf (wE h m G N) m 0 [1] = some (.ref (m + 6)) := wDg_froms hm
theorem wEg_tos (hm : 1024 ≤ m) : a_gf (wE h m G N) m 1 [1] = some (.ref (m + 7)) := wDg_tos hm
theorem wEg_least (hm : 1024 ≤ m) : a_gf (wE h m G N) m 2 [1] = some (.ref (m + 8)) := wDg_least hm
theorem wEg_layers (hm : 1024 ≤ m) : a_gf (wE h m G N) m 3 [1] = some (.ref (m + 9)) := wDg_layers hm
theorem wEg_rows (hm : 1024 ≤ m) : a_gf (wE h m G N) m 4 [1] = some (.ref (m + 10)) := wDg_rows hm
theorem wEg_lengths (hm : 1024 ≤ m) : a_gf (wE h m G N) m 5 [1] = some (.ref (m + 11)) := wDg_lengths hm
theorem wEg_uppers (hm : 1024 ≤ m) : a_gf (wE h m G N) m 6 [1] = some (.ref (m + 1)) := wDg_uppers hm
theorem wEg_lowers (hm : 1024 ≤ m) : a_gf (wE h m G N) m 7 [1] = some (.ref (m + 2)) := wDg_lowers hm
theorem wEg_near (hm : 1024 ≤ m) : a_gf (wE h m G N) m 8 [1] = some (.ref (m + 3)) := wDg_near hm
theorem wEg_medians (hm : 1024 ≤ m) : a_gf (wE h m G N) m 9 [1] = some (.ref (m + 4)) := wDg_medians hm
theorem wEg_points (hm : 1024 ≤ m) : a_gf (wE h m G N) m 10 [1] = some (.ref (m + 5)) := wDg_points hm
theorem wEg_boxes (hm : 1024 ≤ m) : a_gf (wE h m G N) m 11 [1] = some (.int (nI (G 11))) := wDg_boxes hm
theorem wEp_boxes (hm : 1024 ≤ m) (x : Nat) : a_pf (wE h m G N) m 11 [1] (.int (nI x)) = some (wE h m (uG G 11 x) N) := (wDp_boxes hm (nI x)).trans (congrArg (fun z => some (wD h m z _)) uG_F)
theorem wEg_arrows (hm : 1024 ≤ m) : a_gf (wE h m G N) m 12 [1] = some (.int (nI (G 12))) := wDg_arrows hm
theorem wEp_arrows (hm : 1024 ≤ m) (x : Nat) : a_pf (wE h m G N) m 12 [1] (.int (nI x)) = some (wE h m (uG G 12 x) N) := (wDp_arrows hm (nI x)).trans (congrArg (fun z => some (wD h m z _)) uG_F)
theorem wEg_depth (hm : 1024 ≤ m) : a_gf (wE h m G N) m 13 [1] = some (.int (nI (G 13))) := wDg_depth hm
theorem wEp_depth (hm : 1024 ≤ m) (x : Nat) : a_pf (wE h m G N) m 13 [1] (.int (nI x)) = some (wE h m (uG G 13 x) N) := (wDp_depth hm (nI x)).trans (congrArg (fun z => some (wD h m z _)) uG_F)
theorem wEg_made (hm : 1024 ≤ m) : a_gf (wE h m G N) m 14 [1] = some (.int (nI (G 14))) := wDg_made hm
theorem wEp_made (hm : 1024 ≤ m) (x : Nat) : a_pf (wE h m G N) m 14 [1] (.int (nI x)) = some (wE h m (uG G 14 x) N) := (wDp_made hm (nI x)).trans (congrArg (fun z => some (wD h m z _)) uG_F)
theorem wEg_come (hm : 1024 ≤ m) : a_gf (wE h m G N) m 15 [1] = some (.int (nI (G 15))) := wDg_come hm
theorem wEp_come (hm : 1024 ≤ m) (x : Nat) : a_pf (wE h m G N) m 15 [1] (.int (nI x)) = some (wE h m (uG G 15 x) N) := (wDp_come hm (nI x)).trans (congrArg (fun z => some (wD h m z _)) uG_F)
theorem wEr_uppers {i : Nat} (hm : 1024 ≤ m) (hi : i < 30) : a_rdi (wE h m G N) (m + 1) a_int (nI i) = some (.int (nI (N 0 i))) := wDr_uppers hm hi
theorem wEw_uppers {i x : Nat} (hm : 1024 ≤ m) (hi : i < 30) : a_wri (wE h m G N) (m + 1) a_int (nI i) (nI x) = some (wE h m G (uN N 0 i x)) := (wDw_uppers hm hi).trans (congrArg (fun z => some (wD h m _ z)) uN_A)
theorem wEr_lowers {i : Nat} (hm : 1024 ≤ m) (hi : i < 30) : a_rdi (wE h m G N) (m + 2) a_int (nI i) = some (.int (nI (N 1 i))) := wDr_lowers hm hi
theorem wEw_lowers {i x : Nat} (hm : 1024 ≤ m) (hi : i < 30) : a_wri (wE h m G N) (m + 2) a_int (nI i) (nI x) = some (wE h m G (uN N 1 i x)) := (wDw_lowers hm hi).trans (congrArg (fun z => some (wD h m _ z)) uN_A)
theorem wEr_near {i : Nat} (hm : 1024 ≤ m) (hi : i < 30) : a_rdi (wE h m G N) (m + 3) a_int (nI i) = some (.int (nI (N 2 i))) := wDr_near hm hi
theorem wEw_near {i x : Nat} (hm : 1024 ≤ m) (hi : i < 30) : a_wri (wE h m G N) (m + 3) a_int (nI i) (nI x) = some (wE h m G (uN N 2 i x)) := (wDw_near hm hi).trans (congrArg (fun z => some (wD h m _ z)) uN_A)
theorem wEr_medians {i : Nat} (hm : 1024 ≤ m) (hi : i < 46) : a_rdi (wE h m G N) (m + 4) a_int (nI i) = some (.int (nI (N 3 i))) := wDr_medians hm hi
theorem wEw_medians {i x : Nat} (hm : 1024 ≤ m) (hi : i < 46) : a_wri (wE h m G N) (m + 4) a_int (nI i) (nI x) = some (wE h m G (uN N 3 i x)) := (wDw_medians hm hi).trans (congrArg (fun z => some (wD h m _ z)) uN_A)
theorem wEr_points {i : Nat} (hm : 1024 ≤ m) (hi : i < 46) : a_rdi (wE h m G N) (m + 5) a_int (nI i) = some (.int (nI (N 4 i))) := wDr_points hm hi
theorem wEw_points {i x : Nat} (hm : 1024 ≤ m) (hi : i < 46) : a_wri (wE h m G N) (m + 5) a_int (nI i) (nI x) = some (wE h m G (uN N 4 i x)) := (wDw_points hm hi).trans (congrArg (fun z => some (wD h m _ z)) uN_A)
theorem wEr_froms {i : Nat} (hm : 1024 ≤ m) (hi : i < 30) : a_rdi (wE h m G N) (m + 6) a_int (nI i) = some (.int (nI (N 5 i))) := wDr_froms hm hi
theorem wEw_froms {i x : Nat} (hm : 1024 ≤ m) (hi : i < 30) : a_wri (wE h m G N) (m + 6) a_int (nI i) (nI x) = some (wE h m G (uN N 5 i x)) := (wDw_froms hm hi).trans (congrArg (fun z => some (wD h m _ z)) uN_A)
theorem wEr_tos {i : Nat} (hm : 1024 ≤ m) (hi : i < 30) : a_rdi (wE h m G N) (m + 7) a_int (nI i) = some (.int (nI (N 6 i))) := wDr_tos hm hi
theorem wEw_tos {i x : Nat} (hm : 1024 ≤ m) (hi : i < 30) : a_wri (wE h m G N) (m + 7) a_int (nI i) (nI x) = some (wE h m G (uN N 6 i x)) := (wDw_tos hm hi).trans (congrArg (fun z => some (wD h m _ z)) uN_A)
theorem wEr_least {i : Nat} (hm : 1024 ≤ m) (hi : i < 16) : a_rdi (wE h m G N) (m + 8) a_int (nI i) = some (.int (nI (N 7 i))) := wDr_least hm hi
theorem wEw_least {i x : Nat} (hm : 1024 ≤ m) (hi : i < 16) : a_wri (wE h m G N) (m + 8) a_int (nI i) (nI x) = some (wE h m G (uN N 7 i x)) := (wDw_least hm hi).trans (congrArg (fun z => some (wD h m _ z)) uN_A)
theorem wEr_layers {i : Nat} (hm : 1024 ≤ m) (hi : i < 16) : a_rdi (wE h m G N) (m + 9) a_int (nI i) = some (.int (nI (N 8 i))) := wDr_layers hm hi
theorem wEw_layers {i x : Nat} (hm : 1024 ≤ m) (hi : i < 16) : a_wri (wE h m G N) (m + 9) a_int (nI i) (nI x) = some (wE h m G (uN N 8 i x)) := (wDw_layers hm hi).trans (congrArg (fun z => some (wD h m _ z)) uN_A)
theorem wEr_rows {i : Nat} (hm : 1024 ≤ m) (hi : i < 1150) : a_rdi (wE h m G N) (m + 10) a_int (nI i) = some (.int (nI (N 9 i))) := wDr_rows hm hi
theorem wEw_rows {i x : Nat} (hm : 1024 ≤ m) (hi : i < 1150) : a_wri (wE h m G N) (m + 10) a_int (nI i) (nI x) = some (wE h m G (uN N 9 i x)) := (wDw_rows hm hi).trans (congrArg (fun z => some (wD h m _ z)) uN_A)
theorem wEr_lengths {i : Nat} (hm : 1024 ≤ m) (hi : i < 25) : a_rdi (wE h m G N) (m + 11) a_int (nI i) = some (.int (nI (N 10 i))) := wDr_lengths hm hi
theorem wEw_lengths {i x : Nat} (hm : 1024 ≤ m) (hi : i < 25) : a_wri (wE h m G N) (m + 11) a_int (nI i) (nI x) = some (wE h m G (uN N 10 i x)) := (wDw_lengths hm hi).trans (congrArg (fun z => some (wD h m _ z)) uN_A)
end
