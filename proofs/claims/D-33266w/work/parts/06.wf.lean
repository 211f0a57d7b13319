/-! PART wf: ids stay below the next one; cells and slots only grow -/
def wfV (n : Nat) (v : Value) : Prop := ∀ i, v = .ref i → i < n
def wfC (n : Nat) (c : a_C) : Prop := match c with
  | .inr (_, fs) => ∀ v ∈ fs, wfV n v
  | .inl (_, _, .inr (.inr (.inr (.inr f)))) => ∀ j y, f j = some y → y < n
  | _ => True
def wfH (h : a_H) : Prop := 1024 ≤ h.1 ∧ ∀ i, wfC h.1 (h.2.2 i)
def wfL (n : Nat) (L : a_L) : Prop := ∀ v, some v ∈ L → wfV n v
def wfS (n : Nat) (st : List Value) : Prop := ∀ v ∈ st, wfV n v
def wfQ (n : Nat) (r : Option Value ⊕ Nat) : Prop := match r with
  | .inl (some v) => wfV n v
  | .inl none => True
  | .inr x => x < n
def leH (h h' : a_H) : Prop := h.1 ≤ h'.1 ∧ h.2.1 ≤ h'.2.1 ∧ ∀ i, i < 1024 → h'.2.2 i = h.2.2 i
def wfR (h : a_H) (r : a_R) : Prop := leH h r.2 ∧ wfH r.2 ∧ wfQ r.2.1 r.1
def wfO (h : a_H) (o : a_O) : Prop := match o with
  | none => True
  | some (.inl g) => leH h g.2.2.2 ∧ wfH g.2.2.2 ∧ wfL g.2.2.2.1 g.2.1 ∧ wfS g.2.2.2.1 g.2.2.1
  | some (.inr r) => wfR h r
theorem leH.refl (h : a_H) : leH h h := ⟨Nat.le_refl _, Nat.le_refl _, fun _ _ => rfl⟩
theorem leH.trans {h h' h'' : a_H} (a : leH h h') (b : leH h' h'') : leH h h'' := ⟨Nat.le_trans a.1 b.1, Nat.le_trans a.2.1 b.2.1, fun i hi => (b.2.2 i hi).trans (a.2.2 i hi)⟩
theorem wfV.mono {n m : Nat} {v : Value} (hv : wfV n v) (h : n ≤ m) : wfV m v := fun i e => Nat.lt_of_lt_of_le (hv i e) h
theorem wfV_ref {n i : Nat} (h : i < n) : wfV n (.ref i) := fun j e => by cases e; exact h
theorem wfV.lt {n i : Nat} (h : wfV n (.ref i)) : i < n := h i rfl
theorem wfL.mono {n m : Nat} {L : a_L} (hv : wfL n L) (h : n ≤ m) : wfL m L := fun v q => (hv v q).mono h
theorem wfS.mono {n m : Nat} {L : List Value} (hv : wfS n L) (h : n ≤ m) : wfS m L := fun v q => (hv v q).mono h
theorem wfS_cons {n : Nat} {v : Value} {st : List Value} (a : wfV n v) (b : wfS n st) : wfS n (v :: st) := fun w h => by
  rcases List.mem_cons.mp h with e | e
  · rw [e]; exact a
  · exact b w e
theorem wfS.hd {n : Nat} {v : Value} {st : List Value} (h : wfS n (v :: st)) : wfV n v := h v List.mem_cons_self
theorem wfS.tl {n : Nat} {v : Value} {st : List Value} (h : wfS n (v :: st)) : wfS n st := fun w q => h w (List.mem_cons_of_mem _ q)
theorem wfC.mono {n m : Nat} {c : a_C} (hc : wfC n c) (h : n ≤ m) : wfC m c := by
  unfold wfC at hc ⊢
  split
  · exact fun v q => (hc v q).mono h
  · exact fun j y q => Nat.lt_of_lt_of_le (hc j y q) h
  · trivial
theorem wfH.set {h : a_H} (w : wfH h) {i : Nat} {c : a_C} (hc : wfC h.1 c) : wfH (a_set h i c) := ⟨w.1, fun j => by
  show wfC h.1 (if j = i then c else h.2.2 j)
  split
  · exact hc
  · exact w.2 j⟩
theorem wfH.add {h : a_H} (w : wfH h) {c : a_C} {n : Nat} (hc : wfC h.1 c) : wfH (a_add h c n) := ⟨Nat.le_trans w.1 (Nat.le_succ _), fun j => by
  show wfC (h.1 + 1) (if j = h.1 then c else h.2.2 j)
  split
  · exact hc.mono (Nat.le_succ _)
  · exact (w.2 j).mono (Nat.le_succ _)⟩
theorem leH.add {h : a_H} (w : wfH h) (c : a_C) (n : Nat) : leH h (a_add h c n) := ⟨Nat.le_succ _, Nat.le_add_right _ _, fun i hi => by
  show (if i = h.1 then c else h.2.2 i) = h.2.2 i
  rw [if_neg (Nat.ne_of_lt (Nat.lt_of_lt_of_le hi w.1))]⟩
theorem leH.set {h : a_H} {i : Nat} {c : a_C} (hi : 1024 ≤ i) : leH h (a_set h i c) := ⟨Nat.le_refl _, Nat.le_refl _, fun j hj => by
  show (if j = i then c else h.2.2 j) = h.2.2 j
  rw [if_neg (Nat.ne_of_lt (Nat.lt_of_lt_of_le hj hi))]⟩
theorem wf_nx {h0 : a_H} {pc : Nat} {L : a_L} {st : List Value} {h : a_H} (e : leH h0 h) (w : wfH h) (hL : wfL h.1 L) (hs : wfS h.1 st) : wfO h0 (a_nx pc L st h) := ⟨e, w, hL, hs⟩
theorem wf_to {off : Int} {pc : Nat} {L : a_L} {st : List Value} {h : a_H} (w : wfH h) (hL : wfL h.1 L) (hs : wfS h.1 st) : wfO h (a_to off pc L st h) := by
  unfold a_to
  split
  · exact wf_nx (leH.refl _) w hL hs
  · trivial
theorem wf_br {b : Bool} {off : Int} {pc : Nat} {L : a_L} {st : List Value} {h : a_H} (w : wfH h) (hL : wfL h.1 L) (hs : wfS h.1 st) : wfO h (a_br b off pc L st h) := by
  unfold a_br
  split
  · split <;> exact wf_nx (leH.refl _) w hL hs
  · trivial
theorem wf_ld {ok : Value → Bool} {k n pc : Nat} {L : a_L} {st : List Value} {h : a_H} (w : wfH h) (hL : wfL h.1 L) (hs : wfS h.1 st) : wfO h (a_ld ok k n pc L st h) := by
  unfold a_ld
  split
  · next v hv =>
    split
    · exact wf_nx (leH.refl _) w hL (wfS_cons (hL v (List.mem_of_getElem? hv)) hs)
    · trivial
  · trivial
theorem wfL.set {n : Nat} {L : a_L} (hL : wfL n L) {k : Nat} {v : Value} (hv : wfV n v) : wfL n (L.set k (some v)) := fun x hx => by
  rcases List.mem_or_eq_of_mem_set hx with q | q
  · exact hL x q
  · cases q; exact hv
theorem wf_st {ok : Value → Bool} {k n pc : Nat} {L : a_L} {st : List Value} {h : a_H} (w : wfH h) (hL : wfL h.1 L) (hs : wfS h.1 st) : wfO h (a_st ok k n pc L st h) := by
  unfold a_st
  split
  · split
    · exact wf_nx (leH.refl _) w (hL.set hs.hd) hs.tl
    · trivial
  · trivial
theorem wfV_int (n : Nat) (x : Int32) : wfV n (.int x) := fun i e => by cases e
theorem wfV_long (n : Nat) (x : Int64) : wfV n (.long x) := fun i e => by cases e
theorem wfV_float (n : Nat) (x : UInt32) : wfV n (.float x) := fun i e => by cases e
theorem wfV_null (n : Nat) : wfV n .null := fun i e => by cases e
theorem wf_i2 {f : Int32 → Int32 → Option Value} {pc : Nat} {L : a_L} {st : List Value} {h : a_H} (w : wfH h) (hL : wfL h.1 L) (hs : wfS h.1 st) (hf : ∀ x y v n, f x y = some v → wfV n v) : wfO h (a_i2 f pc L st h) := by
  unfold a_i2
  split
  · split
    · next hv => exact wf_nx (leH.refl _) w hL (wfS_cons (hf _ _ _ _ hv) hs.tl.tl)
    · trivial
  · trivial
theorem wf_i1 {f : Int32 → Value} {pc : Nat} {L : a_L} {st : List Value} {h : a_H} (w : wfH h) (hL : wfL h.1 L) (hs : wfS h.1 st) (hf : ∀ x n, wfV n (f x)) : wfO h (a_i1 f pc L st h) := by
  unfold a_i1
  split
  · exact wf_nx (leH.refl _) w hL (wfS_cons (hf _ _) hs.tl)
  · trivial
theorem wf_ar {f : Nat → Int32 → Option Value} {pc : Nat} {L : a_L} {st : List Value} {h : a_H} (w : wfH h) (hL : wfL h.1 L) (hs : wfS h.1 st) (hf : ∀ i j v, f i j = some v → wfV h.1 v) : wfO h (a_ar f pc L st h) := by
  unfold a_ar
  split
  · split
    · next hv => exact wf_nx (leH.refl _) w hL (wfS_cons (hf _ _ _ hv) hs.tl.tl)
    · trivial
  · trivial
theorem wf_aw {f : Nat → Int32 → Value → Option a_H} {pc : Nat} {L : a_L} {st : List Value} {h : a_H} (hL : wfL h.1 L) (hs : wfS h.1 st) (hf : ∀ i j v h', wfV h.1 v → f i j v = some h' → h'.1 = h.1 ∧ leH h h' ∧ wfH h') : wfO h (a_aw f pc L st) := by
  unfold a_aw
  split
  · split
    · next h' hv =>
      obtain ⟨e1, e2, e3⟩ := hf _ _ _ _ hs.hd hv
      refine wf_nx e2 e3 (by rw [e1]; exact hL) (by rw [e1]; exact hs.tl.tl.tl)
    · trivial
  · trivial
theorem wf_gf {h : a_H} (w : wfH h) {i k : Nat} {cs : List Nat} {v : Value} (hv : a_gf h i k cs = some v) : wfV h.1 v := by
  unfold a_gf at hv
  have hw := w.2 i
  split at hv
  · next c fs e =>
    rw [e] at hw
    split at hv
    · exact hw v (List.mem_of_getElem? hv)
    · cases hv
  · cases hv
theorem wf_pf {h h' : a_H} (w : wfH h) {i k : Nat} {cs : List Nat} {v : Value} (hw : wfV h.1 v) (hv : a_pf h i k cs v = some h') : h'.1 = h.1 ∧ leH h h' ∧ wfH h' := by
  unfold a_pf at hv
  have hi := w.2 i
  split at hv
  · next c fs e =>
    rw [e] at hi
    split at hv
    · next hg =>
      cases hv
      refine ⟨rfl, leH.set hg.2.2, w.set (fun x hx => ?_)⟩
      rcases List.mem_or_eq_of_mem_set hx with q | q
      · exact hi x q
      · rw [q]; exact hw
    · cases hv
  · cases hv
theorem wf_rdi {h : a_H} {i : Nat} {ok : FieldType → Bool} {j : Int32} {v : Value} (n : Nat) (hv : a_rdi h i ok j = some v) : wfV n v := by
  unfold a_rdi at hv
  split at hv
  · split at hv
    · cases hv; exact wfV_int _ _
    · cases hv
  · cases hv
theorem wf_rdl {h : a_H} {i : Nat} {j : Int32} {v : Value} (n : Nat) (hv : a_rdl h i j = some v) : wfV n v := by
  unfold a_rdl at hv
  split at hv
  · split at hv
    · cases hv; exact wfV_long _ _
    · cases hv
  · cases hv
theorem wf_rdf {h : a_H} {i : Nat} {j : Int32} {v : Value} (n : Nat) (hv : a_rdf h i j = some v) : wfV n v := by
  unfold a_rdf at hv
  split at hv
  · split at hv
    · cases hv; exact wfV_float _ _
    · cases hv
  · cases hv
theorem wfV_rf {n : Nat} {r : Option Nat} (h : ∀ y, r = some y → y < n) : wfV n (va_rf r) := by
  cases r with
  | none => exact wfV_null n
  | some y => exact wfV_ref (h y rfl)
theorem wf_rdq {h : a_H} (w : wfH h) {i : Nat} {j : Int32} {v : Value} (hv : a_rdq h i j = some v) : wfV h.1 v := by
  unfold a_rdq at hv
  have hi := w.2 i
  split at hv
  · next e =>
    rw [e] at hi
    split at hv
    · cases hv
      exact wfV_rf (hi _)
    · cases hv
  · cases hv
theorem wf_wri {h h' : a_H} (w : wfH h) {i : Nat} {ok : FieldType → Bool} {j x : Int32} (hv : a_wri h i ok j x = some h') : h'.1 = h.1 ∧ leH h h' ∧ wfH h' := by
  unfold a_wri at hv
  split at hv
  · split at hv
    · next hg => cases hv; exact ⟨rfl, leH.set (by first | exact hg.2.2 | exact hg.2), w.set trivial⟩
    · cases hv
  · cases hv
theorem wf_wrl {h h' : a_H} (w : wfH h) {i : Nat} {j : Int32} {x : Int64} (hv : a_wrl h i j x = some h') : h'.1 = h.1 ∧ leH h h' ∧ wfH h' := by
  unfold a_wrl at hv
  split at hv
  · split at hv
    · next hg => cases hv; exact ⟨rfl, leH.set (by first | exact hg.2.2 | exact hg.2), w.set trivial⟩
    · cases hv
  · cases hv
theorem wf_wrf {h h' : a_H} (w : wfH h) {i : Nat} {j : Int32} {x : UInt32} (hv : a_wrf h i j x = some h') : h'.1 = h.1 ∧ leH h h' ∧ wfH h' := by
  unfold a_wrf at hv
  split at hv
  · split at hv
    · next hg => cases hv; exact ⟨rfl, leH.set (by first | exact hg.2.2 | exact hg.2), w.set trivial⟩
    · cases hv
  · cases hv
theorem wf_wrq {h h' : a_H} (w : wfH h) {i : Nat} {j : Int32} {v : Value} (hw : wfV h.1 v) (hv : a_wrq h i j v = some h') : h'.1 = h.1 ∧ leH h h' ∧ wfH h' := by
  unfold a_wrq at hv
  have hi := w.2 i
  split at hv
  · next C n f e =>
    rw [e] at hi
    split at hv
    · next hg =>
      split at hv
      · cases hv
        refine ⟨rfl, leH.set hg.2.2, w.set fun k y hk => ?_⟩
        unfold va_up at hk
        split at hk
        · cases hk
        · exact hi k y hk
      · split at hv
        · cases hv
          refine ⟨rfl, leH.set hg.2.2, w.set fun k y hk => ?_⟩
          unfold va_up at hk
          split at hk
          · cases hk; exact hw.lt
          · exact hi k y hk
        · cases hv
      · cases hv
    · cases hv
  · cases hv
theorem wf_newa {h h' : a_H} (w : wfH h) {ty : FieldType} {n : Int32} {q : Nat} (hv : a_newa h ty n = some (q, h')) : q < h'.1 ∧ leH h h' ∧ wfH h' := by
  unfold a_newa at hv
  split at hv
  · cases hv
  · split at hv
    · next a e =>
      cases hv
      refine ⟨Nat.lt_succ_self _, leH.add w _ _, w.add ?_⟩
      unfold a_zero at e
      split at e <;> first | cases e; done | (cases e; trivial) | (cases e; exact fun j y q => by cases q) | (split at e <;> cases e; exact fun j y q => by cases q)
    · cases hv
theorem wf_thr {M : a_M} {pc : Nat} {L : a_L} {x : Nat} {h0 h : a_H} (e : leH h0 h) (w : wfH h) (hL : wfL h.1 L) (hx : x < h.1) : wfO h0 (a_thr M pc L x h) := by
  unfold a_thr
  split
  · split
    · split
      · exact wf_nx e w hL (wfS_cons (wfV_ref hx) (fun v hv => by cases hv))
      · exact ⟨e, w, hx⟩
      · trivial
    · trivial
  · trivial
def wfK (call : a_M → List Value → a_H → Option a_R) : Prop := ∀ M args h r, wfH h → wfS h.1 args → call M args h = some r → wfR h r
theorem wf_bk {M : a_M} {pc : Nat} {L : a_L} {st : List Value} {h : a_H} {a : Option a_R} (hL : wfL h.1 L) (hs : wfS h.1 st) (ha : ∀ r, a = some r → wfR h r) : wfO h (a_bk M pc L st a) := by
  unfold a_bk
  split
  · next v h' =>
    obtain ⟨e, w, q⟩ := ha _ rfl
    refine wf_nx e w (hL.mono e.1) ?_
    cases v with
    | none => exact hs.mono e.1
    | some v => exact wfS_cons q (hs.mono e.1)
  · next x h' =>
    obtain ⟨e, w, q⟩ := ha _ rfl
    exact wf_thr e w (hL.mono e.1) q
  · trivial
theorem wf_obj {pc : Nat} {L : a_L} {st : List Value} {h : a_H} (w : wfH h) (hL : wfL h.1 L) (hs : wfS h.1 st) : wfO h (a_obj pc L st h) := by
  unfold a_obj
  split
  · split
    · exact wf_nx (leH.refl _) w hL hs.tl
    · trivial
  · trivial
theorem wf_cln {pc : Nat} {L : a_L} {st : List Value} {h : a_H} (w : wfH h) (hL : wfL h.1 L) (hs : wfS h.1 st) : wfO h (a_cln pc L st h) := by
  unfold a_cln
  split
  · split
    · split
      · exact wf_nx (leH.add w _ _) (w.add trivial) (hL.mono (Nat.le_succ _)) (wfS_cons (wfV_ref (Nat.lt_succ_self _)) (hs.tl.mono (Nat.le_succ _)))
      · trivial
    · trivial
  · trivial
theorem wf_cpy {pc : Nat} {L : a_L} {st : List Value} {h : a_H} (w : wfH h) (hL : wfL h.1 L) (hs : wfS h.1 st) : wfO h (a_cpy pc L st h) := by
  unfold a_cpy
  split
  · split
    · split
      · next hg => exact wf_nx (leH.set hg.1.2.1) (w.set trivial) hL hs.tl.tl.tl.tl.tl
      · trivial
    · trivial
  · trivial
theorem wf_gca {pc : Nat} {L : a_L} {st : List Value} {h : a_H} (w : wfH h) (hL : wfL h.1 L) (hs : wfS h.1 st) : wfO h (a_gca pc L st h) := by
  unfold a_gca
  split
  · split
    · next v hv =>
      split
      · refine wf_nx (leH.refl _) w hL (wfS_cons ?_ hs.tl)
        split
        · exact wfV_null _
        · exact wf_gf w hv
      · trivial
    · trivial
  · trivial
theorem wf_fil {pc : Nat} {L : a_L} {st : List Value} {h : a_H} (w : wfH h) (hL : wfL h.1 L) (hs : wfS h.1 st) : wfO h (a_fil pc L st h) := by
  unfold a_fil
  split
  · split
    · exact wf_nx (leH.refl _) w hL (wfS_cons hs.hd hs.tl)
    · trivial
  · trivial
theorem wf_m2 {f : Int32 → Int32 → Int32} {pc : Nat} {L : a_L} {st : List Value} {h : a_H} (w : wfH h) (hL : wfL h.1 L) (hs : wfS h.1 st) : wfO h (a_m2 f pc L st h) := by
  unfold a_m2
  split
  · split
    · exact wf_nx (leH.refl _) w hL (wfS_cons (wfV_int _ _) hs.tl.tl)
    · trivial
  · trivial
theorem wf_mab {pc : Nat} {L : a_L} {st : List Value} {h : a_H} (w : wfH h) (hL : wfL h.1 L) (hs : wfS h.1 st) : wfO h (a_mab pc L st h) := by
  unfold a_mab
  split
  · split
    · exact wf_nx (leH.refl _) w hL (wfS_cons (wfV_int _ _) hs.tl)
    · trivial
  · trivial
theorem wf_gen {call : a_M → List Value → a_H → Option a_R} (hk : wfK call) {M M' : a_M} {kd n : Nat} {cs : List Nat} {pc : Nat} {L : a_L} {st : List Value} {h : a_H} (w : wfH h) (hL : wfL h.1 L) (hs : wfS h.1 st) : wfO h (a_gen call M kd n cs M' pc L st h) := by
  unfold a_gen
  split
  · refine wf_bk hL (fun v hv => hs v (List.mem_of_mem_drop hv)) (fun r hr => hk _ _ _ _ w (fun v hv => ?_) hr)
    exact hs v (List.mem_of_mem_take (List.mem_reverse.mp hv))
  · trivial
theorem wf_inv {call : a_M → List Value → a_H → Option a_R} (hk : wfK call) {M : a_M} {idx : Nat} {knds : List Nat} {pc : Nat} {L : a_L} {st : List Value} {h : a_H} (w : wfH h) (hL : wfL h.1 L) (hs : wfS h.1 st) : wfO h (a_inv call M idx knds pc L st h) := by
  unfold a_inv
  split
  · split
    · split
      · exact wf_obj w hL hs
      · exact wf_cln w hL hs
      · exact wf_cpy w hL hs
      · exact wf_gca w hL hs
      · exact wf_fil w hL hs
      · exact wf_m2 w hL hs
      · exact wf_m2 w hL hs
      · exact wf_mab w hL hs
      · exact wf_gen hk w hL hs
    · trivial
  · trivial
def wf_low (v : Value) : Bool := match v with
  | .ref i => decide (i < 1024)
  | _ => true
theorem wf_lowV {v : Value} {n : Nat} (h : wf_low v = true) (hn : 1024 ≤ n) : wfV n v := fun i e => by
  subst e
  exact Nat.lt_of_lt_of_le (of_decide_eq_true h) hn
theorem wf_ldc {c i : Nat} {v : Value} {n : Nat} (h : k_ldc c i = some v) (hn : 1024 ≤ n) : wfV n v := by
  obtain ⟨m, h1, h2⟩ := a_lk_mem h
  have : k_ldc_l.all (fun q => q.2.all fun r => wf_low r.2) = true := by decide +kernel
  exact wf_lowV (List.all_eq_true.mp (List.all_eq_true.mp this _ h1) _ h2) hn
theorem wf_gst {c i : Nat} {v : Value} {n : Nat} (h : k_gst c i = some v) (hn : 1024 ≤ n) : wfV n v := by
  obtain ⟨m, h1, h2⟩ := a_lk_mem h
  have : k_gst_l.all (fun q => q.2.all fun r => wf_low r.2) = true := by decide +kernel
  exact wf_lowV (List.all_eq_true.mp (List.all_eq_true.mp this _ h1) _ h2) hn
theorem wf_dfs {c : Nat} {fs : List Value} {n : Nat} (h : k_dfs c = some fs) (hn : 1024 ≤ n) : ∀ v ∈ fs, wfV n v := by
  have h1 := a_look_mem h
  have : k_dfl.all (fun q => q.2.all wf_low) = true := by decide +kernel
  exact fun v hv => wf_lowV (List.all_eq_true.mp (List.all_eq_true.mp this _ h1) _ hv) hn
theorem wf_len {h : a_H} {i : Nat} {v : Value} (n : Nat) (hv : a_len h i = some v) : wfV n v := by
  unfold a_len at hv
  split at hv
  · split at hv
    · split at hv
      · cases hv; exact wfV_int _ _
      · cases hv
    · cases hv
  · cases hv
theorem wf_ins {call : a_M → List Value → a_H → Option a_R} (hk : wfK call) {M : a_M} {ins : Instr} {pc : Nat} {L : a_L} {st : List Value} {h : a_H} (w : wfH h) (hL : wfL h.1 L) (hs : wfS h.1 st) : wfO h (a_ins call M ins pc L st h) := by
  unfold a_ins
  split
  case h_7 => 
    split
    · next hv => exact wf_nx (leH.refl _) w hL (wfS_cons (wf_ldc hv w.1) hs)
    · trivial
  case h_9 =>
    split
    · next hv => exact wf_nx (leH.refl _) w hL (wfS_cons (wf_gst hv w.1) hs)
    · trivial
  all_goals first
    | trivial
    | exact wf_nx (leH.refl _) w hL (wfS_cons (wfV_int _ _) hs)
    | exact wf_nx (leH.refl _) w hL (wfS_cons (wfV_long _ _) hs)
    | exact wf_nx (leH.refl _) w hL (wfS_cons (wfV_null _) hs)
    | exact wf_ld w hL hs
    | exact wf_st w hL hs
    | exact wf_to w hL hs
    | exact wf_i1 w hL hs (fun x n => wfV_int _ _)
    | exact wf_i1 w hL hs (fun x n => wfV_long _ _)
    | exact wf_i1 w hL hs (fun x n => wfV_float _ _)
    | exact wf_i2 w hL hs (fun x y v n e => by cases e; exact wfV_int _ _)
    | exact wf_i2 w hL hs (fun x y v n e => by split at e <;> cases e; exact wfV_int _ _)
    | exact wf_inv hk w hL hs
    | exact wf_ar w hL hs (fun i j v e => wf_rdi _ e)
    | exact wf_ar w hL hs (fun i j v e => wf_rdl _ e)
    | exact wf_ar w hL hs (fun i j v e => wf_rdf _ e)
    | exact wf_ar w hL hs (fun i j v e => wf_rdq w e)
    | exact wf_aw hL hs (fun i j v h' hv e => by split at e; exact wf_wri w e; cases e)
    | exact wf_aw hL hs (fun i j v h' hv e => by split at e; exact wf_wrl w e; cases e)
    | exact wf_aw hL hs (fun i j v h' hv e => by split at e; exact wf_wrf w e; cases e)
    | exact wf_aw hL hs (fun i j v h' hv e => wf_wrq w hv e)
    | skip
  all_goals (repeat' split)
  all_goals first
    | trivial
    | exact wf_nx (leH.refl _) w hL (wfS_cons (wfV_int _ _) hs)
    | exact wf_nx (leH.refl _) w hL (wfS_cons (wfV_float _ _) hs)
    | exact wf_nx (leH.refl _) w hL (wfS_cons (wfV_long _ _) hs)
    | exact wf_nx (leH.refl _) w (hL.set (wfV_int _ _)) hs
    | exact wf_nx (leH.refl _) w hL (wfS_cons (wfV_int _ _) hs.tl.tl)
    | exact wf_nx (leH.refl _) w hL (wfS_cons (wfV_float _ _) hs.tl.tl)
    | exact wf_nx (leH.refl _) w hL (wfS_cons hs.hd hs)
    | exact wf_nx (leH.refl _) w hL hs.tl
    | exact wf_nx (leH.refl _) w hL (wfS_cons hs.hd (wfS_cons hs.tl.hd (wfS_cons hs.hd hs.tl.tl)))
    | exact wf_nx (leH.refl _) w hL (wfS_cons hs.hd (wfS_cons hs.tl.hd hs))
    | exact wf_br w hL hs.tl
    | exact wf_br w hL hs.tl.tl
    | exact wf_to w hL hs.tl
    | exact wf_thr (leH.refl _) w hL hs.hd.lt
    | exact ⟨leH.refl _, w, wfV_int _ _⟩
    | exact ⟨leH.refl _, w, wfV_float _ _⟩
    | exact ⟨leH.refl _, w, trivial⟩
    | exact ⟨leH.refl _, w, hs.hd⟩
    | exact wf_nx (leH.refl _) w hL (wfS_cons (wfV_null _) hs.tl)
    | exact wf_nx (leH.refl _) w hL (wfS_cons (wfV_int _ _) hs.tl)
    | exact wf_nx (leH.refl _) w hL (wfS_cons hs.hd hs.tl)
    | exact wf_nx (leH.refl _) w hL (wfS_cons (wf_gf w (by assumption)) hs.tl)
    | exact wf_nx (leH.refl _) w hL (wfS_cons (wf_len _ (by assumption)) hs.tl)
    | exact (fun q => wf_nx q.2.1 q.2.2 (by rw [q.1]; exact hL) (by rw [q.1]; exact hs.tl.tl)) (wf_pf w hs.hd (by assumption))
    | exact wf_nx (leH.add w _ _) (w.add (wf_dfs (by assumption) w.1)) (hL.mono (Nat.le_succ _)) (wfS_cons (wfV_ref (Nat.lt_succ_self _)) (hs.mono (Nat.le_succ _)))
    | exact (fun q => wf_nx q.2.1 q.2.2 (hL.mono q.2.1.1) (wfS_cons (wfV_ref q.1) (hs.tl.mono q.2.1.1))) (wf_newa w (by assumption))
theorem wf_step {call : a_M → List Value → a_H → Option a_R} (hk : wfK call) {M : a_M} {g : a_G} (w : wfH g.2.2.2) (hL : wfL g.2.2.2.1 g.2.1) (hs : wfS g.2.2.2.1 g.2.2.1) : wfO g.2.2.2 (a_step call M g) := by
  unfold a_step
  split
  · split
    · exact wf_ins hk w hL hs
    · trivial
  · trivial
theorem wf_exec {call : a_M → List Value → a_H → Option a_R} (hk : wfK call) {M : a_M} {r : a_R} : ∀ {n : Nat} {g : a_G}, wfH g.2.2.2 → wfL g.2.2.2.1 g.2.1 → wfS g.2.2.2.1 g.2.2.1 → a_exec call M n g = some r → wfR g.2.2.2 r
  | 0, g, _, _, _, h => by cases h
  | n + 1, g, w, hL, hs, h => by
    have h1 := wf_step hk (M := M) w hL hs
    unfold a_exec at h
    cases e : a_step call M g with
    | none => rw [e] at h; cases h
    | some o =>
      rw [e] at h h1
      cases o with
      | inl g' =>
        obtain ⟨a1, a2, a3, a4⟩ := h1
        obtain ⟨b1, b2, b3⟩ := wf_exec hk (n := n) a2 a3 a4 h
        exact ⟨a1.trans b1, b2, b3⟩
      | inr r' =>
        cases h
        exact h1
theorem wf_prim {k : Nat} {args : List Value} {h : a_H} {r : a_R} (w : wfH h) (hr : a_prim k args h = some r) : wfR h r := by
  unfold a_prim at hr
  split at hr
  · cases hr; exact ⟨leH.refl _, w, wfV_int _ _⟩
  · next x =>
    split at hr
    · next hx =>
      cases hr
      refine ⟨leH.refl _, w, wfV_ref ?_⟩
      obtain ⟨j, hj, e1, -⟩ := bx_small (x := x) (fun q => absurd hx.1 (Int32.not_le.mpr q)) (fun q => absurd hx.2 (Int32.not_le.mpr q))
      rw [e1, nI_clamp (Nat.lt_trans hj (by decide))]
      exact Nat.lt_of_lt_of_le (Nat.lt_trans hj (by decide)) w.1
    · cases hr
  · split at hr
    · cases hr; exact ⟨leH.refl _, w, wfV_int _ _⟩
    · cases hr
  · split at hr
    · cases hr; exact ⟨leH.refl _, w, wfV_int _ _⟩
    · split at hr
      · cases hr; exact ⟨leH.refl _, w, wfV_int _ _⟩
      · cases hr
  · split at hr
    · cases hr; exact ⟨leH.refl _, w, trivial⟩
    · cases hr
  · cases hr
theorem wf_ent {M : a_M} {args : List Value} {n : Nat} (h : wfS n args) : wfL n (a_ent M args) := fun v hv => by
  unfold a_ent at hv
  rcases List.mem_append.mp hv with q | q
  · obtain ⟨x, hx, e⟩ := List.mem_map.mp q
    cases e
    exact h v hx
  · have := (List.mem_replicate.mp q).2
    cases this
theorem wf_call : ∀ d, wfK (a_call d)
  | 0, M, args, h, r, _, _, hr => by cases hr
  | d + 1, M, args, h, r, w, ha, hr => by
    rw [a_call] at hr
    split at hr
    · split at hr
      · obtain ⟨n, hn⟩ := a_lim_some hr
        exact wf_exec (wf_call d) (g := (0, a_ent M args, [], h)) w (wf_ent ha) (fun v hv => by cases hv) hn
      · cases hr
    · exact wf_prim w hr
