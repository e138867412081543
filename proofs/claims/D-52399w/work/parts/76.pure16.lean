/-! ===== tokens, in plain numbers ===== -/
section PB16
set_option maxRecDepth 100000
/-- a tape: its bytes, how many -/
abbrev TP : Type := (Nat → Nat) × Nat
def byA (t : TP) (a : Nat) : Nat := if a < t.2 then t.1 a else 0
def byI (t : TP) (a : Nat) : Int32 := if a < t.2 then nI (t.1 a) else -1
def TPo (t : TP) : Prop := t.2 ≤ 2000 ∧ ∀ a, a < t.2 → t.1 a < 256
def isLt (c : Nat) : Bool := decide (97 ≤ c) && decide (c ≤ 122)
def isDg (c : Nat) : Bool := decide (48 ≤ c) && decide (c ≤ 57)
def isBl (c : Nat) : Bool := decide (c = 32) || decide (c = 10)
theorem byA_lt {t : TP} (ht : TPo t) (a : Nat) : byA t a < 256 := by
  unfold byA
  split
  · rename_i h; exact ht.2 a h
  · decide
theorem inI {c lo hi : Nat} (hc : c < 2 ^ 31) (hl : lo < 2 ^ 31) (hh : hi < 2 ^ 31) : (decide (nI lo ≤ nI c) && decide (nI c ≤ nI hi)) = (decide (lo ≤ c) && decide (c ≤ hi)) := by
  rw [Bool.eq_iff_iff]
  simp only [Bool.and_eq_true, decide_eq_true_eq]
  rw [nI_leI hl hc, nI_leI hc hh]
theorem byI_in {t : TP} (ht : TPo t) {a lo hi : Nat} (h0 : 0 < lo) (hl : lo < 2 ^ 31) (hh : hi < 2 ^ 31) : (decide (nI lo ≤ byI t a) && decide (byI t a ≤ nI hi)) = (decide (lo ≤ byA t a) && decide (byA t a ≤ hi)) := by
  unfold byI byA
  by_cases h : a < t.2
  · rw [if_pos h, if_pos h]
    have := ht.2 a h
    exact inI (by omega) hl hh
  · rw [if_neg h, if_neg h]
    have h1 : ¬ nI lo ≤ -1 := fun q => by
      rw [Int32.le_iff_toInt_le, nI_toInt hl] at q
      have : (-1 : Int32).toInt = -1 := rfl
      omega
    have h2 : ¬ lo ≤ 0 := by omega
    rw [decide_eq_false h1, decide_eq_false h2]; rfl
theorem byI_eq {t : TP} (ht : TPo t) {a c : Nat} (h0 : 0 < c) (hc : c < 2 ^ 31) : (byI t a = nI c) ↔ byA t a = c := by
  unfold byI byA
  by_cases h : a < t.2
  · rw [if_pos h, if_pos h]
    have := ht.2 a h
    exact nI_eq (by omega) hc
  · rw [if_neg h, if_neg h]
    refine ⟨fun q => ?_, fun q => by omega⟩
    have h1 : (-1 : Int32).toInt = (nI c).toInt := by rw [q]
    rw [nI_toInt hc] at h1
    have : (-1 : Int32).toInt = -1 := rfl
    omega
/-- the first place from e on, below n, where p fails -/
def runF (p : Nat → Bool) : Nat → Nat → Nat
  | 0, e => e
  | f + 1, e => if p e then runF p f (e + 1) else e
def run (p : Nat → Bool) (n e : Nat) : Nat := runF p (n - e) e
theorem run_t {p : Nat → Bool} {n e : Nat} (he : e < n) (hp : p e = true) : run p n e = run p n (e + 1) := by
  unfold run
  rw [show n - e = (n - (e + 1)) + 1 by omega]
  show (if p e then _ else _) = _
  rw [if_pos hp]
theorem runF_f {p : Nat → Bool} {f e : Nat} (hp : p e = false) : runF p f e = e := by
  cases f with
  | zero => rfl
  | succ f => show (if p e then _ else _) = _; rw [hp]; rfl
theorem run_f {p : Nat → Bool} {n e : Nat} (hp : p e = false) : run p n e = e := runF_f hp
theorem runF_ge {p : Nat → Bool} : ∀ f e, e ≤ runF p f e
  | 0, _ => Nat.le_refl _
  | f + 1, e => by
    show e ≤ (if p e then runF p f (e + 1) else e)
    split
    · have := runF_ge (p := p) f (e + 1); omega
    · exact Nat.le_refl _
theorem run_ge {p : Nat → Bool} {n e : Nat} : e ≤ run p n e := runF_ge _ _
theorem runF_le {p : Nat → Bool} : ∀ f e, runF p f e ≤ e + f
  | 0, _ => Nat.le_refl _
  | f + 1, e => by
    show (if p e then runF p f (e + 1) else e) ≤ _
    split
    · have := runF_le (p := p) f (e + 1); omega
    · omega
theorem run_le {p : Nat → Bool} {n e : Nat} (he : e ≤ n) : run p n e ≤ n := by
  have := runF_le (p := p) (n - e) e
  unfold run; omega
theorem runF_all {p : Nat → Bool} : ∀ f e j, e ≤ j → j < runF p f e → p j = true
  | 0, e, j, h1, h2 => by have h2 : j < e := h2; omega
  | f + 1, e, j, h1, h2 => by
    unfold runF at h2
    split at h2
    · rename_i hp
      by_cases hj : j = e
      · rw [hj]; exact hp
      · exact runF_all f (e + 1) j (by omega) h2
    · omega
theorem run_all {p : Nat → Bool} {n e j : Nat} (h1 : e ≤ j) (h2 : j < run p n e) : p j = true := runF_all _ _ _ h1 h2
def wdP (t : TP) (a : Nat) : Bool := isLt (byA t a) || isDg (byA t a)
def dgP (t : TP) (a : Nat) : Bool := isDg (byA t a)
def blP (t : TP) (a : Nat) : Bool := isBl (byA t a)
theorem byA_o {t : TP} {a : Nat} (h : ¬ a < t.2) : byA t a = 0 := by unfold byA; rw [if_neg h]
theorem wdP_lt {t : TP} {a : Nat} (h : wdP t a = true) : a < t.2 := by
  by_cases q : a < t.2
  · exact q
  · unfold wdP at h; rw [byA_o q] at h; cases h
theorem dgP_lt {t : TP} {a : Nat} (h : dgP t a = true) : a < t.2 := by
  by_cases q : a < t.2
  · exact q
  · unfold dgP at h; rw [byA_o q] at h; cases h
theorem blP_lt {t : TP} {a : Nat} (h : blP t a = true) : a < t.2 := by
  by_cases q : a < t.2
  · exact q
  · unfold blP at h; rw [byA_o q] at h; cases h
def symK (c : Nat) : Nat := if c = 40 then 49 else if c = 41 then 50 else if c = 91 then 51 else if c = 93 then 52 else if c = 59 then 53 else if c = 44 then 54 else if c = 43 then 40 else if c = 45 then 41 else if c = 42 then 42 else if c = 47 then 43 else if c = 60 then 44 else if c = 62 then 45 else if c = 61 then 46 else 32
def two (t : TP) (a : Nat) : Bool := (decide (byA t a = 60) || decide (byA t a = 62)) && decide (byA t (a + 1) = 61)
/-- where a token ends -/
def tkE (t : TP) (a : Nat) : Nat := if isLt (byA t a) then run (wdP t) t.2 (a + 1) else if isDg (byA t a) then run (dgP t) t.2 (a + 1) else if two t a then a + 2 else a + 1
theorem tkE_ge {t : TP} {a : Nat} : a + 1 ≤ tkE t a := by
  unfold tkE
  repeat' split
  · exact run_ge
  · exact run_ge
  · omega
  · omega
theorem tkE_le {t : TP} {a : Nat} (ha : a < t.2) : tkE t a ≤ t.2 := by
  unfold tkE
  repeat' split
  · exact run_le (by omega)
  · exact run_le (by omega)
  · rename_i h
    unfold two at h
    rw [Bool.and_eq_true] at h
    by_cases q : a + 1 < t.2
    · omega
    · rw [byA_o q] at h; exact absurd h.2 (by decide)
  · omega
/-- the text w stands at a, with the length l -/
def wdE (w : List Nat) (t : TP) (a l : Nat) : Bool := decide (w.length = l) && (ff (fun j => decide (¬ w.getD j 0 = t.1 (a + j))) l 0).isNone
theorem wdE_iff {w : List Nat} {t : TP} {a l : Nat} : wdE w t a l = true ↔ w.length = l ∧ ∀ j, j < l → w.getD j 0 = t.1 (a + j) := by
  unfold wdE
  rw [Bool.and_eq_true, decide_eq_true_eq, Option.isNone_iff_eq_none]
  refine and_congr_right (fun _ => ⟨fun h j hj => ?_, fun h => ?_⟩)
  · have := ff_no _ _ h j (Nat.zero_le _) (by omega)
    simpa using this
  · exact ff_none _ _ (fun j _ hj => by simpa using h j (by omega))
def kwN (t : TP) (a l : Nat) : Option Nat := ff (fun k => wdE (tx (31 + k)) t a l) 24 0
/-- the kind of a token -/
def tkK (t : TP) (a : Nat) : Nat := if isLt (byA t a) then (match kwN t a (tkE t a - a) with | some k => k | none => if 10 < tkE t a - a then 32 else 30) else if isDg (byA t a) then (if 6 < tkE t a - a then 32 else 31) else if two t a then (if byA t a = 60 then 47 else 48) else symK (byA t a)
theorem symK_r (c : Nat) : symK c = 32 ∨ (40 ≤ symK c ∧ symK c ≤ 54) := by
  unfold symK
  repeat' split
  all_goals omega
theorem tkK_r (t : TP) (a : Nat) : tkK t a < 24 ∨ tkK t a = 30 ∨ tkK t a = 31 ∨ tkK t a = 32 ∨ (40 ≤ tkK t a ∧ tkK t a ≤ 54) := by
  unfold tkK
  split
  · cases h : kwN t a (tkE t a - a) with
    | some k => have := (ff_lt _ _ _ h).1; simp only; omega
    | none => simp only; split <;> omega
  · split
    · split <;> omega
    · split
      · split <;> omega
      · have := symK_r (byA t a); omega
/-- the value of the first n digits -/
def nmV (t : TP) (a : Nat) : Nat → Nat
  | 0 => 0
  | n + 1 => 10 * nmV t a n + (t.1 (a + n) - 48)
def tkN (t : TP) (a : Nat) : Nat := nmV t a (tkE t a - a)
/-- where the tokens begin -/
def tps (t : TP) : Nat → Nat
  | 0 => run (blP t) t.2 0
  | k + 1 => run (blP t) t.2 (tkE t (tps t k))
def tkd (t : TP) (k : Nat) : Nat := if k = 400 then 32 else tkK t (tps t k)
def tsP (t : TP) (k : Nat) : Bool := decide (t.2 ≤ tps t k) || (decide (0 < k) && decide (tkd t (k - 1) = 32))
/-- the number of tokens, without the end -/
def tcn (t : TP) : Nat := (ff (tsP t) 402 0).getD 0
theorem tcn_e (t : TP) : ff (tsP t) 402 0 = some (tcn t) := by
  unfold tcn
  cases h : ff (tsP t) 402 0 with
  | some k => rfl
  | none =>
    have := ff_no _ _ h 401 (Nat.zero_le _) (by decide)
    exact absurd this (by unfold tsP tkd; simp)
theorem tcn_lt (t : TP) : tcn t < 402 := by have := (ff_lt _ _ _ (tcn_e t)).1; omega
theorem tcn_p (t : TP) : tsP t (tcn t) = true := (ff_lt _ _ _ (tcn_e t)).2
theorem ff_min {p : Nat → Bool} : ∀ (f i r : Nat), ff p f i = some r → ∀ j, i ≤ j → j < r → p j = false
  | 0, i, r, h => by cases h
  | f + 1, i, r, h => by
    intro j h1 h2
    unfold ff at h
    by_cases hp : p i = true
    · rw [if_pos hp] at h; cases h; omega
    · rw [if_neg hp] at h
      by_cases hj : j = i
      · rw [hj]; simpa using hp
      · exact ff_min f (i + 1) r h j (by omega) h2
theorem tcn_m {t : TP} {k : Nat} (h : k < tcn t) : tps t k < t.2 ∧ (0 < k → tkd t (k - 1) ≠ 32) := by
  have := ff_min _ _ _ (tcn_e t) k (Nat.zero_le _) h
  unfold tsP at this
  rw [Bool.or_eq_false_iff] at this
  obtain ⟨h1, h2⟩ := this
  refine ⟨by simpa using h1, fun h0 => ?_⟩
  rw [Bool.and_eq_false_iff] at h2
  rcases h2 with h2 | h2
  · exact absurd h0 (by simpa using h2)
  · simpa using h2
/-- kinds and places, with the end -/
def tK (t : TP) (k : Nat) : Nat := if k = tcn t then 33 else tkd t k
def tP (t : TP) (k : Nat) : Nat := if k = tcn t then t.2 else tps t k
def tL (t : TP) (k : Nat) : Nat := tkE t (tps t k) - tps t k
/-- the last token: bad, or the end -/
def tl (t : TP) : Nat := if decide (0 < tcn t) && decide (tkd t (tcn t - 1) = 32) then tcn t - 1 else tcn t
theorem tl_le (t : TP) : tl t ≤ 400 := by
  have := tcn_lt t
  unfold tl
  split
  · omega
  · rename_i h
    by_cases q : tcn t = 401
    · rw [q] at h; exact absurd h (by unfold tkd; simp)
    · omega
theorem tl_tc (t : TP) : tl t ≤ tcn t := by unfold tl; split <;> omega
theorem tkd_r (t : TP) (k : Nat) : tkd t k < 24 ∨ tkd t k = 30 ∨ tkd t k = 31 ∨ tkd t k = 32 ∨ (40 ≤ tkd t k ∧ tkd t k ≤ 54) := by
  unfold tkd
  split
  · omega
  · exact tkK_r _ _
/-- the parser's kinds: good ones up to the last -/
def KOk (K : Nat → Nat) (n : Nat) : Prop := n ≤ 400 ∧ (K n = 32 ∨ K n = 33) ∧ ∀ k, k < n → K k ≠ 32 ∧ K k ≠ 33 ∧ K k ≤ 54
theorem tK_ok (t : TP) : KOk (tK t) (tl t) := by
  refine ⟨tl_le t, ?_, fun k hk => ?_⟩
  · unfold tl
    split
    · rename_i h
      rw [Bool.and_eq_true, decide_eq_true_eq, decide_eq_true_eq] at h
      left
      unfold tK
      rw [if_neg (by omega)]
      exact h.2
    · right
      unfold tK; rw [if_pos rfl]
  · have h1 := tl_tc t
    have h2 := tkd_r t k
    have h3 : tkd t k ≠ 32 := by
      by_cases q : k + 1 < tcn t
      · have := (tcn_m q).2 (by omega)
        rwa [Nat.add_sub_cancel] at this
      · have e : k + 1 = tcn t := by omega
        unfold tl at hk
        split at hk
        · omega
        · rename_i h
          intro q9
          apply h
          rw [Bool.and_eq_true, decide_eq_true_eq, decide_eq_true_eq, ← e, Nat.add_sub_cancel]
          exact ⟨by omega, q9⟩
    have : tK t k = tkd t k := by unfold tK; rw [if_neg (by omega)]
    rw [this]
    omega
/-- the same name -/
def sNm (t : TP) (a b : Nat) : Bool := decide (tL t a = tL t b) && (ff (fun j => decide (¬ t.1 (tP t a + j) = t.1 (tP t b + j))) (tL t a) 0).isNone
end PB16
