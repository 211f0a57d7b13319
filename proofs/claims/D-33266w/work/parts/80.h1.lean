/-- at m lies a diagram that tells D -/
def cM (H : a_H) (m : Nat) (D : t_D) : Prop := 1024 ≤ m ∧ m + 11 < H.1 ∧ ∃ (G : Nat → Nat) (N : Nat → Nat → Nat), H.2.2 m = .inr (1, wDF m fun k => nI (G k)) ∧ (∀ k, k < 11 → H.2.2 (m + (k + 1)) = .inl (.int, wDN k, .inl fun i => nI (N k i))) ∧ cD N G D
def cHs (H : a_H) : List Nat → List t_D → Prop
  | [], [] => True
  | x :: xs, D :: hs => cM H x D ∧ cHs H xs hs
  | _, _ => False
def cKp (H : a_H) (kv : Value) : Option t_D → Prop
  | none => kv = .null
  | some K => ∃ k, kv = .ref k ∧ cM H k K
/-- the history: deque at q, its array at e -/
def cHi (H : a_H) (q : Nat) (hs : List t_D) : Prop := ∃ (e Hd T : Nat) (f : Nat → Option Nat) (xs : List Nat), 1024 ≤ q ∧ q < H.1 ∧ 1024 ≤ e ∧ e < H.1 ∧ H.2.2 q = cDq e Hd T ∧ H.2.2 e = cArr f ∧ dL f Hd T xs ∧ cHs H xs hs
/-- the text at s -/
def cTx (H : a_H) (s : Nat) (tx : List Nat) : Prop := ∃ (b : Nat) (ml : Int32) (n : Nat) (tf : Nat → Nat), 1024 ≤ s ∧ s < H.1 ∧ 1024 ≤ b ∧ b < H.1 ∧ H.2.2 s = cSB b ml tx.length ∧ H.2.2 b = cBy n tf ∧ tx.length ≤ 60 ∧ tx.length ≤ n ∧ n < 200 ∧ (∀ i, i < tx.length → tf i = tx.getD i 0) ∧ ∀ i, i < n → tf i < 128
/-- the class's object at g, its diagram at m -/
def cI (H : a_H) (g m : Nat) (D : t_D) (hs : List t_D) (kp : Option t_D) (tx : List Nat) : Prop := ∃ (kv : Value) (q s : Nat), 1024 ≤ g ∧ g < H.1 ∧ H.2.2 g = .inr (0, [.ref m, kv, .ref q, .ref s]) ∧ cM H m D ∧ cKp H kv kp ∧ cHi H q hs ∧ hs.length ≤ 4 ∧ cTx H s tx
/-- cells of the class's own kinds -/
def kX : a_C → Bool
  | .inr (c, _) => Nat.beq c 0 || Nat.beq c 7 || Nat.beq c 8
  | .inl (.object _, _) => true
  | .inl (.byte, _) => true
  | _ => false
/-- what an order may change -/
def gR (H H' : a_H) (m a b : Nat) : Prop := H.1 ≤ H'.1 ∧ H'.1 ≤ H.1 + a ∧ H'.2.1 ≤ H.2.1 + b ∧ ∀ q, q < H.1 → kX (H.2.2 q) = false → (q < m ∨ m + 11 < q) → H'.2.2 q = H.2.2 q
def cZ (d : Nat) (M : a_M) (as : List Value) (H : a_H) (g m : Nat) (r : Value ⊕ Nat) (D : t_D) (hs : List t_D) (kp : Option t_D) (tx : List Nat) : Prop := ∃ (H' : a_H) (m' : Nat), cI H' g m' D hs kp tx ∧ gR H H' m 4000 70000 ∧ match r with
  | .inl v => a_call d M (.ref g :: as) H = some (.inl (some v), H')
  | .inr c => ∃ x t, 1024 ≤ x ∧ H'.2.2 x = .inr (c, t) ∧ a_call d M (.ref g :: as) H = some (.inr x, H')
/-- only what is jotted in the diagram at m changes, and what is new -/
def hF (H H' : a_H) (m : Nat) : Prop := H.1 ≤ H'.1 ∧ (∀ q, q < H.1 → (q < m + 1 ∨ m + 5 < q) → H'.2.2 q = H.2.2 q) ∧ ∀ k, k < 5 → ∃ a : Nat → Nat, H'.2.2 (m + (k + 1)) = .inl (.int, wDN k, .inl fun i => nI (a i))
section H1
variable {d : Nat} {H H' h h' : a_H} {g m k : Nat} {G : Nat → Nat} {N N' : Nat → Nat → Nat} {D K : t_D} {hs : List t_D} {kp : Option t_D} {tx : List Nat}
theorem cM_wE (c : cM H m D) : ∃ (G : Nat → Nat) (N : Nat → Nat → Nat), H = wE H m G N ∧ cD N G D := by
  obtain ⟨_, _, G, N, h1, h2, h3⟩ := c
  exact ⟨G, N, wD_ext rfl rfl h1 h2 fun _ _ => rfl, h3⟩
theorem cM_of (hm : 1024 ≤ m) (hq : m + 11 < h.1) (c : cD N G D) : cM (wE h m G N) m D := ⟨hm, hq, G, N, wE_obj, fun _ hk => wE_arr hk, c⟩
/-- two diagrams are one or lie apart -/
theorem cM_apart (c : cM H m D) (c2 : cM H k K) : k = m ∨ k + 11 < m ∨ m + 11 < k := by
  obtain ⟨_, _, G, N, h1, h2, _⟩ := c
  obtain ⟨_, _, G', N', k1, k2, _⟩ := c2
  rcases Nat.lt_trichotomy k m with e | e | e
  · by_cases z : k + 11 < m
    · exact Or.inr (Or.inl z)
    · have := k2 (m - k - 1) (by omega)
      rw [show k + (m - k - 1 + 1) = m by omega, h1] at this
      cases this
  · exact Or.inl e
  · by_cases z : m + 11 < k
    · exact Or.inr (Or.inr z)
    · have := h2 (k - m - 1) (by omega)
      rw [show m + (k - m - 1 + 1) = k by omega, k1] at this
      cases this
theorem cM_F (f : hF H H' m) (c : cM H m D) (c2 : cM H k K) : cM H' k K := by
  have ap := cM_apart c c2
  obtain ⟨f1, f2, f3⟩ := f
  obtain ⟨a1, a2, _⟩ := c
  obtain ⟨b1, b2, G, N, k1, k2, k3⟩ := c2
  rcases ap with e | e
  · subst e
    have ⟨x0, y0⟩ := f3 0 (by decide)
    have ⟨x1, y1⟩ := f3 1 (by decide)
    have ⟨x2, y2⟩ := f3 2 (by decide)
    have ⟨x3, y3⟩ := f3 3 (by decide)
    have ⟨x4, y4⟩ := f3 4 (by decide)
    refine ⟨b1, by omega, G, fun j => if j = 0 then x0 else if j = 1 then x1 else if j = 2 then x2 else if j = 3 then x3 else if j = 4 then x4 else N j, (f2 k (by omega) (by omega)).trans k1, fun j hj => ?_, cD_N (fun j h5 _ => ?_) k3⟩
    · by_cases e0 : j = 0
      · subst e0; exact y0
      by_cases e1 : j = 1
      · subst e1; exact y1
      by_cases e2 : j = 2
      · subst e2; exact y2
      by_cases e3 : j = 3
      · subst e3; exact y3
      by_cases e4 : j = 4
      · subst e4; exact y4
      rw [f2 _ (by omega) (by omega), k2 j hj]
      simp only [if_neg e0, if_neg e1, if_neg e2, if_neg e3, if_neg e4]
    · simp only [if_neg (show j ≠ 0 by omega), if_neg (show j ≠ 1 by omega), if_neg (show j ≠ 2 by omega), if_neg (show j ≠ 3 by omega), if_neg (show j ≠ 4 by omega)]
  · exact ⟨b1, by omega, G, N, (f2 k (by omega) (by omega)).trans k1, fun j hj => (f2 _ (by omega) (by omega)).trans (k2 j hj), k3⟩
/-- all below stays -/
theorem cM_X {a b : Nat} (x : hX H H' a b) (c : cM H k K) : cM H' k K := by
  obtain ⟨b1, b2, G, N, k1, k2, k3⟩ := c
  exact ⟨b1, Nat.lt_of_lt_of_le b2 x.1, G, N, (x.2.2.2 k (by omega)).trans k1, fun j hj => (x.2.2.2 _ (by omega)).trans (k2 j hj), k3⟩
theorem cHs_map (f : ∀ k K, cM H k K → cM H' k K) : ∀ xs hs, cHs H xs hs → cHs H' xs hs
  | [], [], _ => trivial
  | x :: xs, D :: hs, c => ⟨f x D c.1, cHs_map f xs hs c.2⟩
  | [], _ :: _, c => c.elim
  | _ :: _, [], c => c.elim
theorem cHs_len : ∀ xs hs, cHs H xs hs → xs.length = hs.length
  | [], [], _ => rfl
  | x :: xs, D :: hs, c => congrArg (· + 1) (cHs_len xs hs c.2)
  | [], _ :: _, c => c.elim
  | _ :: _, [], c => c.elim
theorem cHs_snoc {x : Nat} : ∀ xs hs, cHs H xs hs → cM H x D → cHs H (xs ++ [x]) (hs ++ [D])
  | [], [], _, c => ⟨c, trivial⟩
  | y :: xs, E :: hs, c, c2 => ⟨c.1, cHs_snoc xs hs c.2 c2⟩
  | [], _ :: _, c, _ => c.elim
  | _ :: _, [], c, _ => c.elim
theorem cKp_map (f : ∀ k K, cM H k K → cM H' k K) {kv : Value} (c : cKp H kv kp) : cKp H' kv kp := by
  cases kp with
  | none => exact c
  | some K =>
    obtain ⟨k, c1, c2⟩ := c
    exact ⟨k, c1, f _ _ c2⟩
/-- cells of other kinds -/
theorem cM_kind (c : cM H m D) {x : Nat} {w : a_C} (e : H.2.2 x = w) (h1 : ∀ t, w ≠ .inr (1, t)) (h2 : ∀ n f, w ≠ .inl (.int, n, .inl f)) : x < m ∨ m + 11 < x := by
  obtain ⟨_, _, G, N, k1, k2, _⟩ := c
  by_cases z : x < m ∨ m + 11 < x
  · exact z
  · exfalso
    by_cases e2 : x = m
    · rw [e2, k1] at e; exact h1 _ e.symm
    · have := k2 (x - m - 1) (by omega)
      rw [show m + (x - m - 1 + 1) = x by omega, e] at this
      exact h2 _ _ this
theorem cI_keep (f : ∀ k K, cM H k K → cM H' k K) (h1 : H.1 ≤ H'.1) (h2 : ∀ q, q < H.1 → (q < m ∨ m + 11 < q) → H'.2.2 q = H.2.2 q) (i : cI H g m D hs kp tx) : cI H' g m D hs kp tx := by
  obtain ⟨kv, q, s, g1, g2, g3, cm, ck, ⟨e, Hd, T, ff, xs, q1, q2, e1, e2, q3, e3, dl, ch⟩, hl, ⟨b, ml, n, tf, s1, s2, b1, b2, s3, b3, t1, t2, t3, t4, t5⟩⟩ := i
  have kg := cM_kind cm g3 (fun t z => by cases z) (fun n f z => by cases z)
  have kq := cM_kind cm q3 (fun t z => by cases z) (fun n f z => by cases z)
  have ke := cM_kind cm e3 (fun t z => by cases z) (fun n f z => by cases z)
  have ks := cM_kind cm s3 (fun t z => by cases z) (fun n f z => by cases z)
  have kb := cM_kind cm b3 (fun t z => by cases z) (fun n f z => by cases z)
  exact ⟨kv, q, s, g1, by omega, (h2 g g2 kg).trans g3, f _ _ cm, cKp_map f ck, ⟨e, Hd, T, ff, xs, q1, by omega, e1, by omega, (h2 q q2 kq).trans q3, (h2 e e2 ke).trans e3, dl, cHs_map f _ _ ch⟩, hl, ⟨b, ml, n, tf, s1, by omega, b1, by omega, (h2 s s2 ks).trans s3, (h2 b b2 kb).trans b3, t1, t2, t3, t4, t5⟩⟩
theorem cI_F (f : hF H H' m) (i : cI H g m D hs kp tx) : cI H' g m D hs kp tx := by
  have cm : cM H m D := by
    obtain ⟨kv, q, s, g1, g2, g3, cm, _⟩ := i
    exact cm
  exact cI_keep (fun k K c => cM_F f cm c) f.1 (fun q hq h => f.2.1 q hq (by omega)) i
theorem cI_X {a b : Nat} (x : hX H H' a b) (i : cI H g m D hs kp tx) : cI H' g m D hs kp tx := cI_keep (fun k K c => cM_X x c) x.1 (fun q hq _ => x.2.2.2 q hq) i
theorem hF_E {a b : Nat} (hq : m + 11 < h.1) (x : hX h h' a b) (e : ∀ j, 5 ≤ j → N' j = N j) : hF (wE h m G N) (wE h' m G N') m := by
  refine ⟨x.1, fun q hq2 h2 => ?_, fun k hk => ⟨N' k, wE_arr (by omega)⟩⟩
  by_cases z : q < m ∨ m + 11 < q
  · rw [wE_out z, wE_out z]; exact x.2.2.2 q hq2
  · by_cases z2 : q = m
    · rw [z2, wE_obj, wE_obj]
    · have z3 : q = m + ((q - m - 1) + 1) := by omega
      rw [z3, wE_arr (by omega), wE_arr (by omega), e _ (by omega)]
theorem gR_E {a b : Nat} (hq : m + 11 < h.1) (x : hX h h' a b) : gR (wE h m G N) (wE h' m G N') m a b := by
  refine ⟨x.1, x.2.1, x.2.2.1, fun q hq2 _ h2 => ?_⟩
  rw [wE_out h2, wE_out h2]
  exact x.2.2.2 q hq2
theorem gR_le {a b a' b' : Nat} (x : gR H H' m a b) (ha : a ≤ a') (hb : b ≤ b') : gR H H' m a' b' := ⟨x.1, Nat.le_trans x.2.1 (by omega), Nat.le_trans x.2.2.1 (by omega), x.2.2.2⟩
/-- an order that only asks -/
theorem cZ_q {M : a_M} {as : List Value} {v : Value} {a b : Nat} (hq : m + 11 < h.1) (i : cI (wE h m G N) g m D hs kp tx) (x : hX h h' a b) (ha : a ≤ 4000) (hb : b ≤ 70000) (e : ∀ j, 5 ≤ j → N' j = N j) (c : a_call d M (.ref g :: as) (wE h m G N) = some (.inl (some v), wE h' m G N')) : cZ d M as (wE h m G N) g m (.inl v) D hs kp tx :=
  ⟨wE h' m G N', m, cI_F (hF_E hq x e) i, gR_le (gR_E hq x) ha hb, c⟩
theorem cZ_0 {M : a_M} {as : List Value} {v : Value} (hq : m + 11 < h.1) (i : cI (wE h m G N) g m D hs kp tx) (e : ∀ j, 5 ≤ j → N' j = N j) (c : a_call d M (.ref g :: as) (wE h m G N) = some (.inl (some v), wE h m G N')) : cZ d M as (wE h m G N) g m (.inl v) D hs kp tx :=
  cZ_q hq i (hX_id h) (by omega) (by omega) e c
theorem cZ_t {M : a_M} {as : List Value} {x c a b : Nat} {t : List Value} (hq : m + 11 < h.1) (i : cI (wE h m G N) g m D hs kp tx) (y : hX h h' a b) (ha : a ≤ 4000) (hb : b ≤ 70000) (e : ∀ j, 5 ≤ j → N' j = N j) (hx : 1024 ≤ x) (et : (wE h' m G N').2.2 x = .inr (c, t)) (cl : a_call d M (.ref g :: as) (wE h m G N) = some (.inr x, wE h' m G N')) : cZ d M as (wE h m G N) g m (.inr c) D hs kp tx :=
  ⟨wE h' m G N', m, cI_F (hF_E hq y e) i, gR_le (gR_E hq y) ha hb, x, t, hx, et, cl⟩
/-- what an order sees first -/
theorem cI_E (i : cI H g m D hs kp tx) : ∃ (h : a_H) (G : Nat → Nat) (N : Nat → Nat → Nat), H = wE h m G N ∧ 1024 ≤ m ∧ m + 11 < h.1 ∧ cD N G D := by
  obtain ⟨kv, q, s, g1, g2, g3, cm, _⟩ := i
  have ⟨G, N, e1, e2⟩ := cM_wE cm
  exact ⟨H, G, N, e1, cm.1, cm.2.1, e2⟩
theorem cI_g (i : cI H g m D hs kp tx) : 1024 ≤ g ∧ g < H.1 ∧ a_kls H g = some 0 ∧ a_gf H g 0 [0] = some (.ref m) := by
  obtain ⟨kv, q, s, g1, g2, g3, _⟩ := i
  exact ⟨g1, g2, a_kls_o g1 g3, a_gf_o g1 rfl g3⟩
theorem cI_out (i : cI H g m D hs kp tx) : g < m ∨ m + 11 < g := by
  obtain ⟨kv, q, s, g1, g2, g3, cm, _⟩ := i
  exact cM_kind cm g3 (fun t z => by cases z) (fun n f z => by cases z)
end H1
