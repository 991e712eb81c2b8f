/-! THE PURE LAYER, 1f: an object with its rows of numbers as a whole: what it shows (zM: numbers, long numbers, rows, rows of long numbers, each by its field), and the store in which it shows something else. -/
abbrev zM : Type := (Nat → Int32) × (Nat → Int64) × (Nat → Nat → Int32) × (Nat → Nat → Int64)
section ZM
def us (s : zM) (k : Nat) (x : Int32) : zM := (fun k' => if k' = k then x else s.1 k', s.2)
def uj (s : zM) (k : Nat) (x : Int64) : zM := (s.1, (fun k' => if k' = k then x else s.2.1 k'), s.2.2)
def ua (s : zM) (k : Nat) (f : Nat → Int32) : zM := (s.1, s.2.1, (fun k' => if k' = k then f else s.2.2.1 k'), s.2.2.2)
def ub (s : zM) (k : Nat) (f : Nat → Int64) : zM := (s.1, s.2.1, s.2.2.1, (fun k' => if k' = k then f else s.2.2.2 k'))
def ls (s : zM) (k : Nat) : Int32 := s.1 k
def lj (s : zM) (k : Nat) : Int64 := s.2.1 k
def la (s : zM) (k : Nat) : Nat → Int32 := s.2.2.1 k
def lb (s : zM) (k : Nat) : Nat → Int64 := s.2.2.2 k
variable {s : zM} {k k' : Nat} {x x' : Int32} {y : Int64} {f f' : Nat → Int32} {g : Nat → Int64}
theorem ls_us : ls (us s k x) k' = if k' = k then x else ls s k' := rfl
theorem ls_uj : ls (uj s k y) k' = ls s k' := rfl
theorem ls_ua : ls (ua s k f) k' = ls s k' := rfl
theorem ls_ub : ls (ub s k g) k' = ls s k' := rfl
theorem lj_us : lj (us s k x) k' = lj s k' := rfl
theorem lj_uj : lj (uj s k y) k' = if k' = k then y else lj s k' := rfl
theorem lj_ua : lj (ua s k f) k' = lj s k' := rfl
theorem lj_ub : lj (ub s k g) k' = lj s k' := rfl
theorem la_us : la (us s k x) k' = la s k' := rfl
theorem la_uj : la (uj s k y) k' = la s k' := rfl
theorem la_ua : la (ua s k f) k' = if k' = k then f else la s k' := rfl
theorem la_ub : la (ub s k g) k' = la s k' := rfl
theorem lb_us : lb (us s k x) k' = lb s k' := rfl
theorem lb_uj : lb (uj s k y) k' = lb s k' := rfl
theorem lb_ua : lb (ua s k f) k' = lb s k' := rfl
theorem lb_ub : lb (ub s k g) k' = if k' = k then g else lb s k' := rfl
theorem ua_ua : ua (ua s k f) k f' = ua s k f' := by
  unfold ua
  refine congrArg (fun z => (s.1, s.2.1, z, s.2.2.2)) ?_
  funext q
  show (if q = k then f' else if q = k then f else s.2.2.1 q) = if q = k then f' else s.2.2.1 q
  split <;> rfl
theorem ua_self : ua s k (la s k) = s := by
  show (s.1, s.2.1, (fun k' => if k' = k then s.2.2.1 k else s.2.2.1 k'), s.2.2.2) = s
  have : (fun k' => if k' = k then s.2.2.1 k else s.2.2.1 k') = s.2.2.1 := by
    funext q; split
    · rename_i h; rw [h]
    · rfl
  rw [this]
theorem us_us : us (us s k x) k x' = us s k x' := by
  unfold us
  refine congrArg (fun z => (z, s.2)) ?_
  funext q
  show (if q = k then x' else if q = k then x else s.1 q) = if q = k then x' else s.1 q
  split <;> rfl
end ZM
def zputr (c : Nat) (L : List Nat) (α : zS) (m : Nat) (s : zM) (a : Nat) : zLoc :=
  if a = m then ((α.2 a).1, ((fun c' k' => if c' = c then s.1 k' else (α.2 a).2.1.1 c' k'), (fun c' k' => if c' = c then s.2.1 k' else (α.2 a).2.1.2.1 c' k'), (α.2 a).2.1.2.2), (α.2 a).2.2)
  else if m < a ∧ a < m + L.length then ((α.2 a).1, (α.2 a).2.1, (s.2.2.1 (L.getD (a - m) 0), s.2.2.2 (L.getD (a - m) 0), (α.2 a).2.2.1.2.2), (α.2 a).2.2.2) else α.2 a
/-- the store in which the object at m (class c, rows of the fields L behind it) shows s -/
def zput (c : Nat) (L : List Nat) (α : zS) (m : Nat) (s : zM) : zS := (α.1, zputr c L α m s)
def zget (c : Nat) (L : List Nat) (α : zS) (m : Nat) : zM := (fun k => zI α c k m, fun k => zJ α c k m, fun k => zaI α (m + L.idxOf k), fun k => zaJ α (m + L.idxOf k))
section ZPUT
variable {c c' k i m q : Nat} {L : List Nat} {α : zS} {s s' : zM} {x : Int32} {y : Int64} {f : Nat → Int32} {g : Nat → Int64}
theorem zn_put : zn (zput c L α m s) = zn α := rfl
theorem zc_put : zc (zput c L α m s) = zc α := rfl
theorem zw_put : zw (zput c L α m s) = zw α := rfl
theorem zput_out (h : q < m ∨ m + L.length ≤ q) (hL : 0 < L.length) : (zput c L α m s).2 q = α.2 q := by
  show zputr c L α m s q = _
  unfold zputr
  rw [if_neg (by omega), if_neg (by omega)]
theorem zputr_1 : (zputr c L α m s q).1 = (α.2 q).1 := by unfold zputr; split; rfl; split <;> rfl
theorem zputr_A : (zputr c L α m s q).2.1.2.2 = (α.2 q).2.1.2.2 := by unfold zputr; split; rfl; split <;> rfl
theorem zputr_aA : (zputr c L α m s q).2.2.1.2.2 = (α.2 q).2.2.1.2.2 := by unfold zputr; split; rfl; split <;> rfl
theorem zputr_3 : (zputr c L α m s q).2.2.2 = (α.2 q).2.2.2 := by unfold zputr; split; rfl; split <;> rfl
theorem zkd_put : zkd (zput c L α m s) q = zkd α q := congrArg (·.1) zputr_1
theorem zln_put : zln (zput c L α m s) q = zln α q := congrArg (·.2.1) zputr_1
theorem zB_put : zB (zput c L α m s) q = zB α q := congrArg (·.2.2.1) zputr_1
theorem zC_put : zC (zput c L α m s) q = zC α q := congrArg (·.2.2.2) zputr_1
theorem zA_put : zA (zput c L α m s) c' k q = zA α c' k q := congrFun (congrFun zputr_A c') k
theorem zaA_put : zaA (zput c L α m s) q = zaA α q := zputr_aA
theorem zL_put : zL (zput c L α m s) q = zL α q := congrArg (·.1) zputr_3
theorem zT_put : zT (zput c L α m s) q = zT α q := congrArg (·.2.1) zputr_3
theorem zm_put : zm (zput c L α m s) q = zm α q := congrArg (·.2.2) zputr_3
theorem zI_put : zI (zput c L α m s) c k m = ls s k := by
  show (zputr c L α m s m).2.1.1 c k = s.1 k
  unfold zputr
  rw [if_pos rfl]
  show (if c = c then s.1 k else _) = _
  rw [if_pos rfl]
theorem zJ_put : zJ (zput c L α m s) c k m = lj s k := by
  show (zputr c L α m s m).2.1.2.1 c k = s.2.1 k
  unfold zputr
  rw [if_pos rfl]
  show (if c = c then s.2.1 k else _) = _
  rw [if_pos rfl]
theorem zaI_put (h0 : 0 < i) (h : L[i]? = some k) : zaI (zput c L α m s) (m + i) = la s k := by
  have hl : i < L.length := (List.getElem?_eq_some_iff.mp h).1
  show (zputr c L α m s (m + i)).2.2.1.1 = s.2.2.1 k
  unfold zputr
  rw [if_neg (by omega), if_pos (by omega)]
  show s.2.2.1 (L.getD (m + i - m) 0) = _
  rw [Nat.add_sub_cancel_left, List.getD_eq_getElem?_getD, h]; rfl
theorem zaJ_put (h0 : 0 < i) (h : L[i]? = some k) : zaJ (zput c L α m s) (m + i) = lb s k := by
  have hl : i < L.length := (List.getElem?_eq_some_iff.mp h).1
  show (zputr c L α m s (m + i)).2.2.1.2.1 = s.2.2.2 k
  unfold zputr
  rw [if_neg (by omega), if_pos (by omega)]
  show s.2.2.2 (L.getD (m + i - m) 0) = _
  rw [Nat.add_sub_cancel_left, List.getD_eq_getElem?_getD, h]; rfl
theorem zwI_put : zwI (zput c L α m s) c k m x = zput c L α m (us s k x) := by
  refine congrArg (Prod.mk α.1) ?_
  funext q
  show va_up (zputr c L α m s) m (zrI (zputr c L α m s m) c k x) q = zputr c L α m (us s k x) q
  unfold va_up
  by_cases h : q = m
  · subst h
    rw [if_pos rfl]
    unfold zputr zrI us
    simp only [if_true]
    refine congrArg (fun z => ((α.2 q).1, (z, _, _), _)) ?_
    funext c' k'
    by_cases e : c' = c
    · subst e; simp
    · simp [e]
  · rw [if_neg h]
    unfold zputr us
    rw [if_neg h, if_neg h]
theorem zwJ_put : zwJ (zput c L α m s) c k m y = zput c L α m (uj s k y) := by
  refine congrArg (Prod.mk α.1) ?_
  funext q
  show va_up (zputr c L α m s) m (zrJ (zputr c L α m s m) c k y) q = zputr c L α m (uj s k y) q
  unfold va_up
  by_cases h : q = m
  · subst h
    rw [if_pos rfl]
    unfold zputr zrJ uj
    simp only [if_true]
    refine congrArg (fun z => ((α.2 q).1, (_, z, _), _)) ?_
    funext c' k'
    by_cases e : c' = c
    · subst e; simp
    · simp [e]
  · rw [if_neg h]
    unfold zputr uj
    rw [if_neg h, if_neg h]
theorem nodup_getD (hn : L.Nodup) (h : L[i]? = some k) {j : Nat} (hj : j < L.length) : (L.getD j 0 = k) ↔ j = i := by
  have hi : i < L.length := (List.getElem?_eq_some_iff.mp h).1
  have e : L[i] = k := (List.getElem?_eq_some_iff.mp h).2
  rw [List.getD_eq_getElem?_getD, List.getElem?_eq_getElem hj]
  show L[j] = k ↔ _
  rw [← e]
  refine ⟨fun z => ?_, fun z => by subst z; rfl⟩
  have := List.Nodup.idxOf_getElem hn j hj
  rw [z, List.Nodup.idxOf_getElem hn i hi] at this
  exact this.symm
theorem zsI_put (hn : L.Nodup) (h0 : 0 < i) (h : L[i]? = some k) : zsI (zput c L α m s) (m + i) f = zput c L α m (ua s k f) := by
  have hl : i < L.length := (List.getElem?_eq_some_iff.mp h).1
  refine congrArg (Prod.mk α.1) ?_
  funext q
  show va_up (zputr c L α m s) (m + i) (zqI (zputr c L α m s (m + i)) f) q = zputr c L α m (ua s k f) q
  unfold va_up
  by_cases hq : q = m
  · subst hq
    rw [if_neg (by omega)]
    unfold zputr ua
    rw [if_pos rfl, if_pos rfl]
  · by_cases hr : m < q ∧ q < m + L.length
    · have hg := nodup_getD hn h (j := q - m) (by omega)
      by_cases e : q = m + i
      · subst e
        rw [if_pos rfl]
        unfold zputr zqI ua
        rw [if_neg hq, if_pos hr, if_neg hq, if_pos hr]
        show ((α.2 (m + i)).1, _, (f, _, _), _) = ((α.2 (m + i)).1, _, ((if L.getD (m + i - m) 0 = k then f else _), _, _), _)
        rw [if_pos (hg.mpr (by omega))]
      · rw [if_neg e]
        unfold zputr ua
        rw [if_neg hq, if_pos hr, if_neg hq, if_pos hr]
        show _ = ((α.2 q).1, _, ((if L.getD (q - m) 0 = k then f else s.2.2.1 (L.getD (q - m) 0)), _, _), _)
        rw [if_neg (fun z => e (by have := hg.mp z; omega))]
    · rw [if_neg (by omega)]
      unfold zputr
      rw [if_neg hq, if_neg hr, if_neg hq, if_neg hr]
theorem zsJ_put (hn : L.Nodup) (h0 : 0 < i) (h : L[i]? = some k) : zsJ (zput c L α m s) (m + i) g = zput c L α m (ub s k g) := by
  have hl : i < L.length := (List.getElem?_eq_some_iff.mp h).1
  refine congrArg (Prod.mk α.1) ?_
  funext q
  show va_up (zputr c L α m s) (m + i) (zqJ (zputr c L α m s (m + i)) g) q = zputr c L α m (ub s k g) q
  unfold va_up
  by_cases hq : q = m
  · subst hq
    rw [if_neg (by omega)]
    unfold zputr ub
    rw [if_pos rfl, if_pos rfl]
  · by_cases hr : m < q ∧ q < m + L.length
    · have hg := nodup_getD hn h (j := q - m) (by omega)
      by_cases e : q = m + i
      · subst e
        rw [if_pos rfl]
        unfold zputr zqJ ub
        rw [if_neg hq, if_pos hr, if_neg hq, if_pos hr]
        show ((α.2 (m + i)).1, _, (_, g, _), _) = ((α.2 (m + i)).1, _, (_, (if L.getD (m + i - m) 0 = k then g else _), _), _)
        rw [if_pos (hg.mpr (by omega))]
      · rw [if_neg e]
        unfold zputr ub
        rw [if_neg hq, if_pos hr, if_neg hq, if_pos hr]
        show _ = ((α.2 q).1, _, (_, (if L.getD (q - m) 0 = k then g else s.2.2.2 (L.getD (q - m) 0)), _), _)
        rw [if_neg (fun z => e (by have := hg.mp z; omega))]
    · rw [if_neg (by omega)]
      unfold zputr
      rw [if_neg hq, if_neg hr, if_neg hq, if_neg hr]
theorem zput_put : zput c L (zput c L α m s) m s' = zput c L α m s' := by
  refine congrArg (Prod.mk α.1) ?_
  funext q
  show zputr c L (zput c L α m s) m s' q = zputr c L α m s' q
  unfold zputr
  by_cases hq : q = m
  · subst hq
    rw [if_pos rfl, if_pos rfl]
    show ((zputr c L α q s q).1, _, _) = _
    unfold zputr
    simp only [if_true]
    refine Prod.ext rfl (Prod.ext (Prod.ext ?_ (Prod.ext ?_ ?_)) ?_)
    · funext c' k'
      show (if c' = c then s'.1 k' else (zputr c L α q s q).2.1.1 c' k') = _
      unfold zputr
      by_cases e : c' = c <;> simp [e]
    · funext c' k'
      show (if c' = c then s'.2.1 k' else (zputr c L α q s q).2.1.2.1 c' k') = _
      unfold zputr
      by_cases e : c' = c <;> simp [e]
    · show (zputr c L α q s q).2.1.2.2 = _
      exact zputr_A
    · show (zputr c L α q s q).2.2 = _
      unfold zputr; rw [if_pos rfl]
  · rw [if_neg hq, if_neg hq]
    by_cases hr : m < q ∧ q < m + L.length
    · rw [if_pos hr, if_pos hr]
      show ((zputr c L α m s q).1, (zputr c L α m s q).2.1, (_, _, (zputr c L α m s q).2.2.1.2.2), (zputr c L α m s q).2.2.2) = _
      unfold zputr
      rw [if_neg hq, if_pos hr]
    · rw [if_neg hr, if_neg hr]
      show zputr c L α m s q = _
      unfold zputr
      rw [if_neg hq, if_neg hr]
theorem zput_get (hn : L.Nodup) : zput c L α m (zget c L α m) = α := by
  refine Prod.ext rfl ?_
  funext q
  show zputr c L α m (zget c L α m) q = α.2 q
  unfold zputr
  by_cases hq : q = m
  · subst hq
    rw [if_pos rfl]
    refine Prod.ext rfl (Prod.ext (Prod.ext ?_ (Prod.ext ?_ rfl)) rfl)
    · funext c' k'
      show (if c' = c then (α.2 q).2.1.1 c k' else _) = _
      by_cases e : c' = c <;> simp [e]
    · funext c' k'
      show (if c' = c then (α.2 q).2.1.2.1 c k' else _) = _
      by_cases e : c' = c <;> simp [e]
  · rw [if_neg hq]
    by_cases hr : m < q ∧ q < m + L.length
    · rw [if_pos hr]
      have hj : q - m < L.length := by omega
      have e1 : L.getD (q - m) 0 = L[q - m] := by rw [List.getD_eq_getElem?_getD, List.getElem?_eq_getElem hj]; rfl
      have e2 : m + L.idxOf (L.getD (q - m) 0) = q := by
        rw [e1, List.Nodup.idxOf_getElem hn _ hj]; omega
      show ((α.2 q).1, (α.2 q).2.1, (zaI α (m + L.idxOf (L.getD (q - m) 0)), zaJ α (m + L.idxOf (L.getD (q - m) 0)), _), _) = _
      rw [e2]
      rfl
    · rw [if_neg hr]
theorem zput_F0 : zF0 α (zput c L α m s) (fun a => m ≤ a ∧ (a < m + L.length ∨ a = m)) := ⟨rfl, fun a ha => by
  show zputr c L α m s a = _
  unfold zputr
  rw [if_neg (fun e => ha ⟨by omega, Or.inr e⟩), if_neg (fun e => ha ⟨by omega, Or.inl e.2⟩)]⟩
end ZPUT
