/-- what an arrow after another one brings to a box -/
def t_fo (sp : Nat → Nat → Nat → Nat) (it : Nat → Nat) (fr to : Nat → Nat) (b : Nat) (g : Nat → Nat) : Nat → Nat
  | 0 => it b
  | k + 1 => if to k = b then sp (fr k) (t_fo sp it fr to b g k) (g (fr k)) else t_fo sp it fr to b g k
def t_G (sp : Nat → Nat → Nat → Nat) (it : Nat → Nat) (na : Nat) (fr to : Nat → Nat) : Nat → Nat → Nat
  | 0, b => it b
  | n + 1, b => t_fo sp it fr to b (t_G sp it na fr to n) na
theorem t_fo_congr {sp : Nat → Nat → Nat → Nat} {it fr to g g' : Nat → Nat} {b : Nat} : ∀ n, (∀ k, k < n → to k = b → g (fr k) = g' (fr k)) → t_fo sp it fr to b g n = t_fo sp it fr to b g' n
  | 0, _ => rfl
  | n + 1, h => by
    unfold t_fo
    rw [t_fo_congr n (fun k hk => h k (by omega))]
    by_cases c : to n = b
    · rw [if_pos c, if_pos c, h n (by omega) c]
    · rw [if_neg c, if_neg c]
theorem t_fo_no {sp : Nat → Nat → Nat → Nat} {it fr to g : Nat → Nat} {b : Nat} : ∀ n, (∀ k, k < n → to k ≠ b) → t_fo sp it fr to b g n = it b
  | 0, _ => rfl
  | n + 1, h => by
    unfold t_fo
    rw [if_neg (h n (by omega)), t_fo_no n (fun k hk => h k (by omega))]
theorem t_G_fix {sp : Nat → Nat → Nat → Nat} {it fr to y : Nat → Nat} {na : Nat} (hy : ∀ k, k < na → y (fr k) < y (to k)) : ∀ n m b, y b ≤ n → y b ≤ m → t_G sp it na fr to n b = t_G sp it na fr to m b
  | 0, 0, b, _, _ => rfl
  | 0, m + 1, b, h, _ => (t_fo_no na (fun k hk e => by
      have := hy k hk
      rw [e] at this; omega)).symm
  | n + 1, 0, b, _, h => t_fo_no na (fun k hk e => by
      have := hy k hk
      rw [e] at this; omega)
  | n + 1, m + 1, b, h1, h2 => t_fo_congr na (fun k hk e => by
      have := hy k hk
      rw [e] at this
      exact t_G_fix hy n m (fr k) (by omega) (by omega))
theorem t_G_eq {sp : Nat → Nat → Nat → Nat} {it fr to y : Nat → Nat} {na : Nat} (hy : ∀ k, k < na → y (fr k) < y (to k)) {n b : Nat} (hb : y b ≤ n) : t_G sp it na fr to n b = t_fo sp it fr to b (t_G sp it na fr to n) na := by
  rw [t_G_fix hy n (n + 1) b hb (by omega)]
  rfl
/-- layer by layer, arrow by arrow -/
def t_DP (sp : Nat → Nat → Nat → Nat) (it : Nat → Nat) (na : Nat) (fr to y : Nat → Nat) (l k : Nat) (v : Nat → Nat) : Prop := ∀ b, b < 16 → (y b < l → v b = t_G sp it na fr to 25 b) ∧ (l < y b → v b = it b) ∧ (y b = l → v b = t_fo sp it fr to b (t_G sp it na fr to 25) k)
theorem t_DP_0 {sp : Nat → Nat → Nat → Nat} {it fr to y v : Nat → Nat} {na : Nat} (h : ∀ b, b < 16 → v b = it b) : t_DP sp it na fr to y 0 0 v := fun b hb => ⟨fun q => absurd q (Nat.not_lt_zero _), fun _ => h b hb, fun _ => h b hb⟩
theorem t_DP_s {sp : Nat → Nat → Nat → Nat} {it fr to y v : Nat → Nat} {na l k : Nat} (hb : t_BX na fr to) (hy : ∀ k, k < na → y (fr k) < y (to k)) (hk : k < na) (h : t_DP sp it na fr to y l k v) : t_DP sp it na fr to y l (k + 1) (if y (to k) = l then upN v (to k) (sp (fr k) (v (to k)) (v (fr k))) else v) := fun b hx => by
  have ⟨h1, h2, h3⟩ := h b hx
  have a := hy k hk
  by_cases c : y (to k) = l
  · rw [if_pos c]
    by_cases e : b = to k
    · have v1 : upN v (to k) (sp (fr k) (v (to k)) (v (fr k))) b = sp (fr k) (v (to k)) (v (fr k)) := if_pos e
      rw [v1]
      refine ⟨fun q => ?_, fun q => ?_, fun q => ?_⟩
      · rw [e] at q; omega
      · rw [e] at q; omega
      · have g := (h (fr k) (hb k hk).1).1 (by omega)
        unfold t_fo
        rw [if_pos e.symm, g, ← h3 q, e]
    · have v1 : upN v (to k) (sp (fr k) (v (to k)) (v (fr k))) b = v b := if_neg e
      rw [v1]
      refine ⟨h1, h2, fun q => ?_⟩
      unfold t_fo
      rw [if_neg (Ne.symm e)]
      exact h3 q
  · rw [if_neg c]
    refine ⟨h1, h2, fun q => ?_⟩
    unfold t_fo
    rw [if_neg (fun e => c (by rw [e, q]))]
    exact h3 q
theorem t_DP_l {sp : Nat → Nat → Nat → Nat} {it fr to y v : Nat → Nat} {na l : Nat} (hy : ∀ k, k < na → y (fr k) < y (to k)) (hl : l ≤ 25) (h : t_DP sp it na fr to y l na v) : t_DP sp it na fr to y (l + 1) 0 v := fun b hx => by
  have ⟨h1, h2, h3⟩ := h b hx
  refine ⟨fun q => ?_, fun q => h2 (by omega), fun q => h2 (by omega)⟩
  by_cases c : y b < l
  · exact h1 c
  · rw [h3 (by omega), t_G_eq hy (show y b ≤ 25 by omega)]
theorem t_DP_e {sp : Nat → Nat → Nat → Nat} {it fr to y v : Nat → Nat} {na l k b : Nat} (hb : b < 16) (hl : y b < l) (h : t_DP sp it na fr to y l k v) : v b = t_G sp it na fr to 25 b := (h b hb).1 hl
/-- by going back along the arrows: a box's layer -/
def t_bk (fr to le y : Nat → Nat) (b : Nat) : Nat → Nat
  | 0 => le b
  | k + 1 => if to k = b then (if t_bk fr to le y b k < y (fr k) + 1 then y (fr k) + 1 else t_bk fr to le y b k) else t_bk fr to le y b k
theorem t_bk_le {fr to le y : Nat → Nat} {b : Nat} : ∀ n, le b ≤ t_bk fr to le y b n ∧ ∀ k, k < n → to k = b → y (fr k) + 1 ≤ t_bk fr to le y b n
  | 0 => ⟨Nat.le_refl _, fun _ h => absurd h (Nat.not_lt_zero _)⟩
  | n + 1 => by
    have ⟨h1, h2⟩ := t_bk_le (fr := fr) (to := to) (le := le) (y := y) (b := b) n
    unfold t_bk
    refine ⟨by split <;> (try split) <;> omega, fun k hk e => ?_⟩
    by_cases c : k = n
    · subst c
      rw [if_pos e]
      split <;> omega
    · have := h2 k (by omega) e
      split <;> (try split) <;> omega
theorem t_bk_bd {fr to le y : Nat → Nat} {b c : Nat} (hl : le b ≤ c) : ∀ n, (∀ k, k < n → to k = b → y (fr k) + 1 ≤ c) → t_bk fr to le y b n ≤ c
  | 0, _ => hl
  | n + 1, h => by
    have i := t_bk_bd hl n (fun k hk => h k (by omega))
    unfold t_bk
    split
    · next e =>
      have := h n (by omega) e
      split <;> omega
    · exact i
theorem t_bk_eq {na b : Nat} {fr to le y : Nat → Nat} (h : t_LY na fr to le y) (hb : b < 16) : t_bk fr to le y b na = y b := by
  refine Nat.le_antisymm (t_bk_bd (h.1 b hb) na fun k hk e => ?_) ?_
  · have := h.2.1 k hk
    rw [e] at this; exact this
  · have ⟨h1, h2⟩ := t_bk_le (fr := fr) (to := to) (le := le) (y := y) (b := b) na
    rcases h.2.2 b hb with q | ⟨k, hk, e, q⟩
    · omega
    · have := h2 k hk e
      omega
/-- sets that tell of whom each box hears -/
def t_HS (E : Nat → Prop) (fr to hd : Nat → Nat) : Prop := ∀ b, b < 16 → ∀ a, (hd b).testBit a = true ↔ t_R E fr to b a
theorem t_HS_eq {E : Nat → Prop} {fr to hd hd' : Nat → Nat} (h : t_HS E fr to hd) (h' : t_HS E fr to hd') {b : Nat} (hb : b < 16) : hd b = hd' b := Nat.eq_of_testBit_eq fun a => by
  have := (h b hb a).trans (h' b hb a).symm
  cases x : (hd b).testBit a <;> cases z : (hd' b).testBit a <;> simp_all
/-- while sets are told: each is of such of whom it hears -/
def t_HI (E : Nat → Prop) (fr to hd : Nat → Nat) : Prop := ∀ b, b < 16 → ∀ a, (hd b).testBit a = true → a < 16 ∧ t_R E fr to b a
theorem t_HI_bd {E : Nat → Prop} {fr to hd : Nat → Nat} (h : t_HI E fr to hd) {b : Nat} (hb : b < 16) : hd b < 65536 := Nat.lt_pow_two_of_testBit (n := 16) _ fun i hi => by
  cases x : (hd b).testBit i
  · rfl
  · have := (h b hb i x).1; omega
theorem t_HI_0 {E : Nat → Prop} {fr to hd : Nat → Nat} (h : ∀ b, b < 16 → hd b = 0) : t_HI E fr to hd := fun b hb a q => by
  rw [h b hb, Nat.zero_testBit] at q
  cases q
theorem t_HI_s {E : Nat → Prop} {fr to hd : Nat → Nat} {k : Nat} (hf : fr k < 16) (ht : to k < 16) (hE : E k) (h : t_HI E fr to hd) : t_HI E fr to (upN hd (to k) (hd (to k) ||| (hd (fr k) ||| 2 ^ fr k))) := fun b hb a q => by
  by_cases e : b = to k
  · have v : upN hd (to k) (hd (to k) ||| (hd (fr k) ||| 2 ^ fr k)) b = hd (to k) ||| (hd (fr k) ||| 2 ^ fr k) := if_pos e
    rw [v, Nat.testBit_or, Nat.testBit_or, Bool.or_eq_true, Bool.or_eq_true] at q
    rw [e]
    rcases q with q | q | q
    · exact h _ ht a q
    · have ⟨g1, g2⟩ := h _ hf a q
      exact ⟨g1, t_R_cons hE g2⟩
    · rw [Nat.testBit_two_pow, decide_eq_true_eq] at q
      rw [← q]
      exact ⟨hf, t_R_one hE⟩
  · have v : upN hd (to k) (hd (to k) ||| (hd (fr k) ||| 2 ^ fr k)) b = hd b := if_neg e
    rw [v] at q
    exact h b hb a q
theorem t_HI_gr {fr to hd : Nat → Nat} {k : Nat} (ht : to k < 16) (hn : (hd (to k) ||| (hd (fr k) ||| 2 ^ fr k)) ≠ hd (to k)) : t_sum hd 16 < t_sum (upN hd (to k) (hd (to k) ||| (hd (fr k) ||| 2 ^ fr k))) 16 := by
  have l : hd (to k) ≤ (hd (to k) ||| (hd (fr k) ||| 2 ^ fr k)) := Nat.left_le_or
  refine t_sum_lt (x := to k) ?_ 16 ht fun i _ => ?_
  · show _ < (if to k = to k then _ else _)
    rw [if_pos rfl]; omega
  · unfold upN
    split
    · next e => rw [e]; exact l
    · exact Nat.le_refl _
theorem t_HI_in {E : Nat → Prop} {fr to hd r : Nat → Nat} (hr : ∀ k, E k → r (fr k) < r (to k)) (hf : ∀ k, E k → (hd (to k) ||| (hd (fr k) ||| 2 ^ fr k)) = hd (to k)) : ∀ n b a, r b ≤ n → t_R E fr to b a → (hd b).testBit a = true
  | n, b, a, hn, q => by
    have ⟨k, hk, e, z⟩ := t_R_inv q
    have g := hr k hk
    subst e
    rw [← hf k hk, Nat.testBit_or, Nat.testBit_or]
    rcases z with z | z
    · rw [z, Nat.testBit_two_pow_self, Bool.or_true, Bool.or_true]
    · match n with
      | 0 => omega
      | n + 1 => rw [t_HI_in hr hf n (fr k) a (by omega) z, Bool.true_or, Bool.or_true]
theorem t_HI_end {E : Nat → Prop} {fr to hd r : Nat → Nat} (hr : ∀ k, E k → r (fr k) < r (to k)) (h : t_HI E fr to hd) (hf : ∀ k, E k → (hd (to k) ||| (hd (fr k) ||| 2 ^ fr k)) = hd (to k)) : t_HS E fr to hd := fun b hx a => ⟨fun q => (h b hx a q).2, fun q => t_HI_in hr hf (r b) b a (Nat.le_refl _) q⟩
/-- the same sets, layer by layer -/
def t_sh (s acc src : Nat) : Nat := acc ||| (src ||| 2 ^ s)
theorem t_fo_bits {fr to g : Nat → Nat} {b a : Nat} : ∀ n, (t_fo t_sh (fun _ => 0) fr to b g n).testBit a = true ↔ ∃ k, k < n ∧ to k = b ∧ (a = fr k ∨ (g (fr k)).testBit a = true)
  | 0 => by simp [t_fo]
  | n + 1 => by
    have i := t_fo_bits (fr := fr) (to := to) (g := g) (b := b) (a := a) n
    unfold t_fo
    by_cases c : to n = b
    · rw [if_pos c]
      show (t_fo t_sh (fun _ => 0) fr to b g n ||| (g (fr n) ||| 2 ^ fr n)).testBit a = true ↔ _
      rw [Nat.testBit_or, Nat.testBit_or, Bool.or_eq_true, Bool.or_eq_true, i, Nat.testBit_two_pow, decide_eq_true_eq]
      constructor
      · rintro (⟨k, h1, h2, h3⟩ | h | h)
        · exact ⟨k, by omega, h2, h3⟩
        · exact ⟨n, by omega, c, Or.inr h⟩
        · exact ⟨n, by omega, c, Or.inl h.symm⟩
      · rintro ⟨k, h1, h2, h3⟩
        by_cases e : k = n
        · subst e
          rcases h3 with h3 | h3
          · exact Or.inr (Or.inr h3.symm)
          · exact Or.inr (Or.inl h3)
        · exact Or.inl ⟨k, by omega, h2, h3⟩
    · rw [if_neg c, i]
      constructor
      · rintro ⟨k, h1, h2, h3⟩
        exact ⟨k, by omega, h2, h3⟩
      · rintro ⟨k, h1, h2, h3⟩
        by_cases e : k = n
        · subst e; exact absurd h2 c
        · exact ⟨k, by omega, h2, h3⟩
theorem t_G_bits {na : Nat} {fr to y : Nat → Nat} (hb : t_BX na fr to) (hy : ∀ k, k < na → y (fr k) < y (to k)) (hs : ∀ b, b < 16 → y b ≤ 25) : ∀ n b a, b < 16 → y b ≤ n → ((t_G t_sh (fun _ => 0) na fr to 25 b).testBit a = true ↔ t_R (fun k => k < na) fr to b a)
  | n, b, a, hx, hn => by
    rw [t_G_eq hy (hs b hx), t_fo_bits]
    constructor
    · rintro ⟨k, h1, h2, h3⟩
      have g := hy k h1
      have f := (hb k h1).1
      subst h2
      rcases h3 with h3 | h3
      · rw [h3]; exact t_R_one (E := fun k => k < na) h1
      · match n with
        | 0 => omega
        | n + 1 => exact t_R_cons (E := fun k => k < na) h1 ((t_G_bits hb hy hs n (fr k) a f (by omega)).mp h3)
    · intro q
      have ⟨k, h1, h2, h3⟩ := t_R_inv q
      have g := hy k h1
      have f := (hb k h1).1
      refine ⟨k, h1, h2, h3.elim Or.inl fun z => Or.inr ?_⟩
      subst h2
      match n with
      | 0 => omega
      | n + 1 => exact (t_G_bits hb hy hs n (fr k) a f (by omega)).mpr z
theorem t_G_HS {na : Nat} {fr to y : Nat → Nat} (hb : t_BX na fr to) (hy : ∀ k, k < na → y (fr k) < y (to k)) (hs : ∀ b, b < 16 → y b ≤ 25) : t_HS (fun k => k < na) fr to (t_G t_sh (fun _ => 0) na fr to 25) := fun b hx a => t_G_bits hb hy hs (y b) b a hx (Nat.le_refl _)
/-- one searches backwards: seen ones, open ones -/
def t_BF (E : Nat → Prop) (fr to : Nat → Nat) (box : Nat) (seen : Nat → Prop) (Q : List Nat) : Prop := (∀ b, seen b → t_R E fr to box b) ∧ (∀ q, q ∈ Q → q = box ∨ seen q) ∧ ∀ b, b = box ∨ seen b → b ∈ Q ∨ ∀ k, E k → to k = b → seen (fr k)
theorem t_BF_end {E : Nat → Prop} {fr to : Nat → Nat} {box : Nat} {seen : Nat → Prop} (h : t_BF E fr to box seen []) (b : Nat) : seen b ↔ t_R E fr to box b := by
  have ⟨h1, _, h3⟩ := h
  have h3 : ∀ b, b = box ∨ seen b → ∀ k, E k → to k = b → seen (fr k) := fun b q => (h3 b q).elim (fun z => nomatch z) id
  exact ⟨h1 b, fun q => q seen (fun k hk e => h3 box (Or.inl rfl) k hk e) (fun k hk z => h3 (to k) (Or.inr z) k hk rfl)⟩
/-- one of the open ones is taken; the first arrows were looked at -/
def t_BG (E : Nat → Prop) (fr to : Nat → Nat) (box at_ n : Nat) (seen : Nat → Prop) (Q : List Nat) : Prop := (∀ b, seen b → t_R E fr to box b) ∧ (∀ q, q ∈ Q → q = box ∨ seen q) ∧ (at_ = box ∨ seen at_) ∧ (∀ b, b = box ∨ seen b → b ∈ Q ∨ b = at_ ∨ ∀ k, E k → to k = b → seen (fr k)) ∧ ∀ k, k < n → E k → to k = at_ → seen (fr k)
theorem t_BG_0 {E : Nat → Prop} {fr to : Nat → Nat} {box a : Nat} {seen : Nat → Prop} {Q : List Nat} (h : t_BF E fr to box seen (a :: Q)) : t_BG E fr to box a 0 seen Q := by
  have ⟨h1, h2, h3⟩ := h
  refine ⟨h1, fun q hq => h2 q (List.mem_cons_of_mem _ hq), h2 a List.mem_cons_self, fun b hb => ?_, fun k hk => absurd hk (Nat.not_lt_zero _)⟩
  rcases h3 b hb with q | q
  · rcases List.mem_cons.mp q with q | q
    · exact Or.inr (Or.inl q)
    · exact Or.inl q
  · exact Or.inr (Or.inr q)
theorem t_BG_e {E : Nat → Prop} {fr to : Nat → Nat} {box a n : Nat} {seen : Nat → Prop} {Q : List Nat} (hE : ∀ k, E k → k < n) (h : t_BG E fr to box a n seen Q) : t_BF E fr to box seen Q := by
  have ⟨h1, h2, _, h4, h5⟩ := h
  refine ⟨h1, h2, fun b hb => ?_⟩
  rcases h4 b hb with q | q | q
  · exact Or.inl q
  · subst q
    exact Or.inr fun k hk e => h5 k (hE k hk) hk e
  · exact Or.inr q
theorem t_BG_no {E : Nat → Prop} {fr to : Nat → Nat} {box a n : Nat} {seen : Nat → Prop} {Q : List Nat} (hn : E n → to n = a → seen (fr n)) (h : t_BG E fr to box a n seen Q) : t_BG E fr to box a (n + 1) seen Q := by
  have ⟨h1, h2, h3, h4, h5⟩ := h
  refine ⟨h1, h2, h3, h4, fun k hk e1 e2 => ?_⟩
  by_cases e : k = n
  · subst e; exact hn e1 e2
  · exact h5 k (by omega) e1 e2
theorem t_BG_up {E : Nat → Prop} {fr to : Nat → Nat} {box a n : Nat} {seen seen' : Nat → Prop} {Q : List Nat} (hE : E n) (ht : to n = a) (hs : ∀ b, seen' b ↔ b = fr n ∨ seen b) (h : t_BG E fr to box a n seen Q) : t_BG E fr to box a (n + 1) seen' (Q ++ [fr n]) := by
  have ⟨h1, h2, h3, h4, h5⟩ := h
  have up : ∀ b, seen b → seen' b := fun b q => (hs b).mpr (Or.inr q)
  refine ⟨fun b q => ?_, fun q hq => ?_, h3.elim Or.inl fun z => Or.inr (up _ z), fun b hb => ?_, fun k hk e1 e2 => ?_⟩
  · rcases (hs b).mp q with q | q
    · rw [q]
      rcases h3 with z | z
      · rw [← z, ← ht]; exact t_R_one hE
      · exact t_R_snoc hE (ht ▸ h1 a z)
    · exact h1 b q
  · rcases List.mem_append.mp hq with q | q
    · exact (h2 _ q).elim Or.inl fun z => Or.inr (up _ z)
    · rw [List.mem_singleton.mp q]
      exact Or.inr ((hs _).mpr (Or.inl rfl))
  · have c : b = fr n ∨ (b = box ∨ seen b) := hb.elim (fun z => Or.inr (Or.inl z)) fun z => ((hs b).mp z).elim Or.inl fun z => Or.inr (Or.inr z)
    rcases c with c | c
    · exact Or.inl (List.mem_append.mpr (Or.inr (by rw [c]; exact List.mem_singleton.mpr rfl)))
    · rcases h4 b c with q | q | q
      · exact Or.inl (List.mem_append.mpr (Or.inl q))
      · exact Or.inr (Or.inl q)
      · exact Or.inr (Or.inr fun k hk e => up _ (q k hk e))
  · by_cases e : k = n
    · subst e; exact (hs _).mpr (Or.inl rfl)
    · exact up _ (h5 k (by omega) e1 e2)
/-- of sums that differ at two neighbours alone -/
theorem t_sum_two {f g : Nat → Nat} {l : Nat} : ∀ n, (∀ i, i + 1 ≠ l → i ≠ l → f i = g i) → t_sum f n + ((if 0 < l ∧ l - 1 < n then g (l - 1) else 0) + if l < n then g l else 0) = t_sum g n + ((if 0 < l ∧ l - 1 < n then f (l - 1) else 0) + if l < n then f l else 0)
  | 0, _ => by simp [t_sum]
  | n + 1, h => by
    have i := t_sum_two n h
    unfold t_sum
    by_cases c1 : n = l
    · subst c1
      rw [if_neg (Nat.lt_irrefl n), if_neg (Nat.lt_irrefl n)] at i
      rw [if_pos (Nat.lt_succ_self n), if_pos (Nat.lt_succ_self n)]
      by_cases z : 0 < n
      · rw [if_pos ⟨z, by omega⟩, if_pos ⟨z, by omega⟩] at i ⊢
        omega
      · rw [if_neg fun q => z q.1, if_neg fun q => z q.1] at i ⊢
        omega
    · by_cases c2 : n + 1 = l
      · subst c2
        have a1 : ¬ (0 < n + 1 ∧ n + 1 - 1 < n) := by omega
        have a2 : ¬ n + 1 < n := by omega
        have a3 : 0 < n + 1 ∧ n + 1 - 1 < n + 1 := by omega
        rw [if_neg a1, if_neg a2, if_neg a1, if_neg a2] at i
        rw [if_pos a3, if_neg (Nat.lt_irrefl _), if_pos a3, if_neg (Nat.lt_irrefl _)]
        have e : n + 1 - 1 = n := rfl
        rw [e]
        omega
      · have e := h n c2 c1
        have e1 : (l < n + 1) = (l < n) := propext (by omega)
        have e2 : (0 < l ∧ l - 1 < n + 1) = (0 < l ∧ l - 1 < n) := propext (by omega)
        simp only [e1, e2]
        omega
