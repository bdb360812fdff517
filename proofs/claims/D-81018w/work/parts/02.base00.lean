set_option maxRecDepth 16384
section
section Ba
theorem ab_dm (P : ab_Pg) : ∀ d k pc L st μ r, ab_run P d k pc L st μ = some r → ∀ d', d ≤ d' → ab_run P d' k pc L st μ = some r := sorry
variable {μ : ab_M}
theorem ab_up_ne {a j b : Nat} {v : Int} (h : b ≠ a) : ab_up μ a j v b = μ b := sorry
theorem ab_up_eq {a j : Nat} {v : Int} : ab_up μ a j v a = ab_u1 (μ a) j v := sorry
theorem ab_u1_eq {f : Nat → Int} {j : Nat} {v : Int} : ab_u1 f j v j = v := sorry
theorem ab_u1_ne {f : Nat → Int} {j i : Nat} {v : Int} (h : i ≠ j) : ab_u1 f j v i = f i := sorry
theorem up_if {a j b i : Nat} {v : Int} : ab_up μ a j v b i = if b = a ∧ i = j then v else μ b i := sorry
theorem up_at {a j : Nat} {v : Int} : ab_up μ a j v a j = v := sorry
theorem up_a {a j b i : Nat} {v : Int} (h : b ≠ a) : ab_up μ a j v b i = μ b i := sorry
theorem up_j {a j i : Nat} {v : Int} (h : i ≠ j) : ab_up μ a j v a i = μ a i := sorry
theorem up_up {a j : Nat} {v w : Int} : ab_up (ab_up μ a j v) a j w = ab_up μ a j w := sorry
theorem ab_cp_ne {a i b j n x : Nat} (h : x ≠ b) : ab_cp μ a i b j n x = μ x := sorry
theorem ab_cp_eq {a i b j n k : Nat} : ab_cp μ a i b j n b k = if j ≤ k ∧ k < j + n then μ a (i + (k - j)) else μ b k := sorry
theorem cp_if {a i b j n c k : Nat} : ab_cp μ a i b j n c k = if c = b ∧ j ≤ k ∧ k < j + n then μ a (i + (k - j)) else μ c k := sorry
theorem w32_id {x : Int} (h : -2147483648 ≤ x) (h2 : x < 2147483648) : w32 x = x := sorry
theorem w64_id {x : Int} (h : -9223372036854775808 ≤ x) (h2 : x < 9223372036854775808) : w64 x = x := sorry
theorem w32_rg (x : Int) : -2147483648 ≤ w32 x ∧ w32 x < 2147483648 := sorry
theorem w64_rg (x : Int) : -9223372036854775808 ≤ w64 x ∧ w64 x < 9223372036854775808 := sorry
theorem i2b_rg (x : Int) : -128 ≤ i2b x ∧ i2b x < 128 := sorry
theorem i2b_emod (x : Int) : i2b x % 256 = x % 256 := sorry
theorem i2b_id {x : Int} (h : -128 ≤ x) (h2 : x < 128) : i2b x = x := sorry
theorem w32_emod {x : Int} : w32 x % 256 = x % 256 := sorry
theorem cal0 {x : Int} {thr f : Int → ab_M → ab_R} : ab_cal (some ((0, x), μ)) 0 thr f = f x μ := sorry
theorem cal1 {x : Int} {thr f : Int → ab_M → ab_R} : ab_cal (some ((1, x), μ)) 1 thr f = f x μ := sorry
theorem cal2 {x : Int} {thr f : Int → ab_M → ab_R} : ab_cal (some ((2, x), μ)) 2 thr f = f x μ := sorry
theorem cal3 {x : Int} {thr f : Int → ab_M → ab_R} : ab_cal (some ((3, x), μ)) 3 thr f = f x μ := sorry
theorem calT {x : Int} {t : Nat} {thr f : Int → ab_M → ab_R} : ab_cal (some ((4, x), μ)) t thr f = thr x μ := sorry
def R3 (x : ab_R) (Q : ab_M → Prop) : Prop := ∃ μ', x = some ((3, 0), μ') ∧ Q μ'
def R0 (x : ab_R) (Q : Int → ab_M → Prop) : Prop := ∃ v μ', x = some ((0, v), μ') ∧ Q v μ'
def R1 (x : ab_R) (Q : Int → ab_M → Prop) : Prop := ∃ v μ', x = some ((1, v), μ') ∧ Q v μ'
def R2 (x : ab_R) (Q : Int → ab_M → Prop) : Prop := ∃ v μ', x = some ((2, v), μ') ∧ Q v μ'
theorem nbq {a b : Nat} : Nat.beq a b = decide (a = b) := sorry
end Ba
end
section
section Lx
variable {μ : ab_M} {d : Nat} {T : Nat → Int} {n : Nat}
def RT (x : ab_R) (Q : ab_M → Prop) : Prop := ∃ μ', x = some ((4, 2), μ') ∧ Q μ'
def sg (x : Int) : Int := if x < 128 then x else x - 256
def slc (T : Nat → Int) : Nat → Nat → List Int
  | _, 0 => []
  | a, m + 1 => T a :: slc T (a + 1) m
def isL (c : Int) : Prop := 97 ≤ c ∧ c ≤ 122 ∨ 65 ≤ c ∧ c ≤ 90 ∨ c = 95
def isD (c : Int) : Prop := 48 ≤ c ∧ c ≤ 57
noncomputable def lxB (T : Nat → Int) (n : Nat) (c : Bool) (p : Nat) : Nat :=
  if p < n then
    if c then (if T p = 10 then lxB T n false (p + 1) else lxB T n true (p + 1))
    else if T p = 35 then lxB T n true (p + 1)
    else if T p = 9 ∨ T p = 10 ∨ T p = 13 ∨ T p = 32 then lxB T n false (p + 1) else p
  else p
termination_by n - p
noncomputable def lxN (T : Nat → Int) (n : Nat) (p : Nat) : Nat :=
  if p < n then (if 97 ≤ T p ∧ T p ≤ 122 ∨ 65 ≤ T p ∧ T p ≤ 90 ∨ T p = 95 ∨ 48 ≤ T p ∧ T p ≤ 57 then lxN T n (p + 1) else p) else p
termination_by n - p
noncomputable def lxW (l : List Int) : Nat → Nat → Int
  | _, 0 => -1
  | w, m + 1 => if 0 ≤ lxW l (w + 1) m then lxW l (w + 1) m else if l = pr_txt w then w else -1
noncomputable def lxD (T : Nat → Int) (n : Nat) (p : Nat) (v : Int) (ok : Int) : Nat × Int × Int :=
  if p < n then (if 48 ≤ T p ∧ T p ≤ 57 then lxD T n (p + 1) (w64 (w64 (10 * v) + (T p - 48))) (if v ≤ (9223372036854775807 - (T p - 48)) / 10 then ok else 0) else (p, v, ok)) else (p, v, ok)
termination_by n - p
noncomputable def atz (T : Nat → Int) (n p : Nat) : Int := if p < n then T p else 0
noncomputable def hxv (c : Int) : Int := if 48 ≤ c ∧ c ≤ 57 then c - 48 else if 97 ≤ c ∧ c ≤ 102 then c - 97 + 10 else -1
noncomputable def lxS (T : Nat → Int) (n : Nat) (p : Nat) (l : List Int) : Option (Nat × List Int) :=
  if p < n then
    if T p = 34 then some (p + 1, l)
    else if T p < 32 ∨ 126 < T p ∨ l.length = 60 then none
    else if T p = 92 then
      if atz T n (p + 1) = 34 ∨ atz T n (p + 1) = 92 then lxS T n (p + 2) (l ++ [atz T n (p + 1)])
      else if atz T n (p + 1) = 120 ∧ 0 ≤ hxv (atz T n (p + 2)) ∧ 0 ≤ hxv (atz T n (p + 3)) then lxS T n (p + 4) (l ++ [16 * hxv (atz T n (p + 2)) + hxv (atz T n (p + 3))])
      else none
    else lxS T n (p + 1) (l ++ [T p])
  else none
termination_by n - p
noncomputable def lxG (T : Nat → Int) (n p : Nat) : Int :=
  if atz T n (p + 1) = 61 ∧ T p = 61 then 256 else if atz T n (p + 1) = 61 ∧ T p = 33 then 257 else if atz T n (p + 1) = 61 ∧ T p = 60 then 258 else if atz T n (p + 1) = 61 ∧ T p = 62 then 259
  else if T p = 61 ∨ T p = 60 ∨ T p = 62 ∨ T p = 33 ∨ T p = 123 ∨ T p = 125 ∨ T p = 40 ∨ T p = 41 ∨ T p = 91 ∨ T p = 93 ∨ T p = 44 ∨ T p = 59 ∨ T p = 58 ∨ T p = 64 ∨ T p = 46 ∨ T p = 43 ∨ T p = 45 ∨ T p = 42 ∨ T p = 47 ∨ T p = 37 then T p else -1
noncomputable def lx (T : Nat → Int) (n p : Nat) : Option (Nat × Nat × Nat × Int × List Int) :=
  if lxB T n false p = n then some (0, n, n, 0, [])
  else if 97 ≤ T (lxB T n false p) ∧ T (lxB T n false p) ≤ 122 ∨ 65 ≤ T (lxB T n false p) ∧ T (lxB T n false p) ≤ 90 ∨ T (lxB T n false p) = 95 then
    if lxN T n (lxB T n false p) ≤ lxB T n false p + 16 then
      if 0 ≤ lxW (slc T (lxB T n false p) (lxN T n (lxB T n false p) - lxB T n false p)) 0 26 then some (2, lxB T n false p, lxN T n (lxB T n false p), lxW (slc T (lxB T n false p) (lxN T n (lxB T n false p) - lxB T n false p)) 0 26, [])
      else some (1, lxB T n false p, lxN T n (lxB T n false p), 0, [])
    else none
  else if 48 ≤ T (lxB T n false p) ∧ T (lxB T n false p) ≤ 57 then
    if (lxD T n (lxB T n false p) 0 1).2.2 = 1 ∧ (lxD T n (lxB T n false p) 0 1).1 ≤ lxB T n false p + 19 then some (3, lxB T n false p, (lxD T n (lxB T n false p) 0 1).1, (lxD T n (lxB T n false p) 0 1).2.1, []) else none
  else if T (lxB T n false p) = 34 then
    match lxS T n (lxB T n false p + 1) [] with
    | none => none
    | some q => some (4, lxB T n false p, q.1, 0, q.2)
  else if 0 ≤ lxG T n (lxB T n false p) then some (5, lxB T n false p, if 256 ≤ lxG T n (lxB T n false p) then lxB T n false p + 2 else lxB T n false p + 1, lxG T n (lxB T n false p), []) else none
def cTx (μ : ab_M) (T : Nat → Int) (n : Nat) : Prop := μ 8 0 = 4 ∧ μ 8 1 = n ∧ n ≤ 4000 ∧ ∀ k, k < n → 0 ≤ T k ∧ T k < 256 ∧ μ 4 k = sg (T k)
theorem cTx.to {μ' : ab_M} (h : cTx μ T n) (h2 : ∀ a i, a ≠ 2 → a ≠ 8 → a ≠ 9 → μ' a i = μ a i) (h3 : μ' 8 0 = μ 8 0) (h4 : μ' 8 1 = μ 8 1) : cTx μ' T n := sorry
theorem ar4 : wc_ar 4 = (4, 4000) := sorry
theorem c_at {x : Nat} (h : cTx μ T n) (hx : x < n) : (ab_run wc (d + 1) 666 0 [(2, 8), (0, x)] [] μ) = some ((0, sg (T x)), μ) := sorry
theorem c_atE {x : Int} (h : cTx μ T n) (hx : (n : Int) ≤ x) : (ab_run wc (d + 1) 666 0 [(2, 8), (0, x)] [] μ) = some ((0, -1), μ) := sorry
theorem c_isL {x : Int} : (ab_run wc (d + 1) 416 0 [(0, x)] [] μ) = some ((0, if 97 ≤ x ∧ x ≤ 122 ∨ 65 ≤ x ∧ x ≤ 90 ∨ x = 95 then 1 else 0), μ) := sorry
theorem c_isD {x : Int} : (ab_run wc (d + 1) 413 0 [(0, x)] [] μ) = some ((0, if 48 ≤ x ∧ x ≤ 57 then 1 else 0), μ) := sorry
theorem lxB_le : ∀ m c p, p + m = n → p ≤ lxB T n c p ∧ lxB T n c p ≤ n := sorry
theorem c_blankL : ∀ m (p : Nat) (μ : ab_M), p + m = n → cTx μ T n → μ 8 2 = p →
    R3 (ab_run wc (d + 2) 677 2 [(2, 8), (0, 1), (3, 0)] [] μ) (fun μ' => μ' 8 2 = lxB T n false p ∧ ∀ a i, a ≠ 8 ∨ i ≠ 2 → μ' a i = μ a i) ∧
    R3 (ab_run wc (d + 2) 677 21 [(2, 8), (0, 1), (3, 0)] [] μ) (fun μ' => μ' 8 2 = lxB T n true p ∧ ∀ a i, a ≠ 8 ∨ i ≠ 2 → μ' a i = μ a i) := sorry
theorem c_blank {p : Nat} (h : cTx μ T n) (hp : μ 8 2 = p) (hn : p ≤ n) : R3 (ab_run wc (d + 2) 677 0 [(2, 8), (3, 0), (3, 0)] [] μ) (fun μ' => μ' 8 2 = lxB T n false p ∧ ∀ a i, a ≠ 8 ∨ i ≠ 2 → μ' a i = μ a i) := sorry
theorem c_refuse {x y : Int} : (ab_run wc (d + 1) 497 0 [(2, 1), (0, x), (0, y)] [] μ) = some ((2, 2), ab_up (ab_up μ 2 6 x) 2 7 y) := sorry
theorem ob2 : wc_ob 2 2 = true := sorry
def wdA (w : Nat) : Int := 200400 + w
theorem wd_tab : ∀ w, w < 26 → wh_st 7 w = wdA w ∧ wc_ob (wdA w).toNat 20 = true ∧ (wdA w).toNat - 200400 = w := sorry
theorem wd_lo : ∀ w, w < 26 → ∀ c ∈ pr_txt w, 0 ≤ c ∧ c < 128 := sorry
theorem pr_len_wd {w : Nat} (hw : w < 26) : pr_len [(2, wdA w)] μ = some ((0, ((pr_txt w).length : Int)), μ) := sorry
theorem pr_chr_wd {w k : Nat} (hw : w < 26) (hk : k < (pr_txt w).length) : pr_chr [(2, wdA w), (0, (k : Int))] μ = some ((0, (pr_txt w)[k]), μ) := sorry
theorem c_isTextL {a len : Nat} {w : Nat} (hw : w < 26) (h : cTx μ T n) (ha : a + len ≤ n) (hl : (pr_txt w).length = len) : ∀ m k, k + m = len →
    (ab_run wc (d + 1) 425 13 [(2, 4), (0, a), (0, len), (2, (wdA w)), (0, k)] [] μ) = some ((0, if slc T (a + k) m = (pr_txt w).drop k then 1 else 0), μ) := sorry
end Lx
end
section
section Lx
variable {μ : ab_M} {d : Nat} {T : Nat → Int} {n : Nat}
theorem slc_len : ∀ (m a : Nat), (slc T a m).length = m := sorry
theorem c_isText {a len w : Nat} (hw : w < 26) (h : cTx μ T n) (ha : a + len ≤ n) : (ab_run wc (d + 1) 425 0 [(2, 4), (0, a), (0, len), (2, (wdA w)), (3, 0)] [] μ) = some ((0, if slc T a len = pr_txt w then 1 else 0), μ) := sorry
theorem c_wordL {q e : Nat} (hq : q ≤ e) (he : e ≤ n) : ∀ m (w : Nat) (μ : ab_M), w + m = 26 → cTx μ T n → μ 8 4 = q → μ 8 2 = e →
    R3 (ab_run wc (d + 2) 674 77 [(2, 8), (0, w)] [] μ) (fun μ' => (∀ a i, a ≠ 8 ∨ (i ≠ 3 ∧ i ≠ 6) → μ' a i = μ a i) ∧ (0 ≤ lxW (slc T q (e - q)) w m → μ' 8 3 = 200102 ∧ μ' 8 6 = lxW (slc T q (e - q)) w m) ∧ (lxW (slc T q (e - q)) w m < 0 → μ' 8 3 = μ 8 3 ∧ μ' 8 6 = μ 8 6)) := sorry
theorem lxN_le : ∀ m p, p + m = n → p ≤ lxN T n p ∧ lxN T n p ≤ n := sorry
theorem c_nameL {q : Nat} : ∀ m (p : Nat) (μ : ab_M), p + m = n → cTx μ T n → μ 8 2 = p → μ 8 4 = q → q ≤ p →
    (lxN T n p ≤ q + 16 → R3 (ab_run wc (d + 3) 674 0 [(2, 8), (3, 0)] [] μ) (fun μ' => (∀ a i, a ≠ 8 ∨ (i ≠ 3 ∧ i ≠ 6 ∧ i ≠ 2) → μ' a i = μ a i) ∧ μ' 8 2 = lxN T n p ∧ (0 ≤ lxW (slc T q (lxN T n p - q)) 0 26 → μ' 8 3 = 200102 ∧ μ' 8 6 = lxW (slc T q (lxN T n p - q)) 0 26) ∧ (lxW (slc T q (lxN T n p - q)) 0 26 < 0 → μ' 8 3 = 200101))) ∧
    (q + 16 < lxN T n p → RT (ab_run wc (d + 3) 674 0 [(2, 8), (3, 0)] [] μ) (fun μ' => (∀ a i, a ≠ 2 → a ≠ 8 ∨ i ≠ 2 → μ' a i = μ a i) ∧ μ' 2 6 = 1 ∧ μ' 2 7 = q)) := sorry
end Lx
end
section
section Lx
variable {μ : ab_M} {d : Nat} {T : Nat → Int} {n : Nat}
theorem and32_1 {x : Int} (h : x = 0 ∨ x = 1) : and32 x 1 = x ∧ and32 x 0 = 0 := sorry
theorem lxD_le : ∀ m p v ok, p + m = n → (ok = 0 ∨ ok = 1) → p ≤ (lxD T n p v ok).1 ∧ (lxD T n p v ok).1 ≤ n ∧ ((lxD T n p v ok).2.2 = 0 ∨ (lxD T n p v ok).2.2 = 1) := sorry
theorem c_digitsL {q : Nat} : ∀ m (p : Nat) (v ok : Int) (μ : ab_M), p + m = n → cTx μ T n → μ 8 2 = p → μ 8 4 = q → q ≤ p → (ok = 0 ∨ ok = 1) →
    ((lxD T n p v ok).2.2 = 1 ∧ (lxD T n p v ok).1 ≤ q + 19 → R3 (ab_run wc (d + 2) 668 4 [(2, 8), (1, v), (3, 0), (0, ok), (3, 0)] [] μ) (fun μ' => (∀ a i, a ≠ 8 ∨ (i ≠ 3 ∧ i ≠ 7 ∧ i ≠ 2) → μ' a i = μ a i) ∧ μ' 8 2 = (lxD T n p v ok).1 ∧ μ' 8 3 = 200103 ∧ μ' 8 7 = (lxD T n p v ok).2.1)) ∧
    (¬ ((lxD T n p v ok).2.2 = 1 ∧ (lxD T n p v ok).1 ≤ q + 19) → RT (ab_run wc (d + 2) 668 4 [(2, 8), (1, v), (3, 0), (0, ok), (3, 0)] [] μ) (fun μ' => (∀ a i, a ≠ 2 → a ≠ 8 ∨ i ≠ 2 → μ' a i = μ a i) ∧ μ' 2 6 = 1 ∧ μ' 2 7 = q)) := sorry
theorem hxv_sg {x : Int} (h : 0 ≤ x) (h2 : x < 256) : hxv (sg x) = hxv x := sorry
theorem hxv_rg {x : Int} : -1 ≤ hxv x ∧ hxv x < 16 := sorry
theorem c_hex {x : Int} (h : 0 ≤ hxv x) : (ab_run wc (d + 2) 669 0 [(2, 8), (0, x)] [] μ) = some ((0, hxv x), μ) := sorry
theorem c_hexT {x : Int} (h : hxv x < 0) : (ab_run wc (d + 2) 669 0 [(2, 8), (0, x)] [] μ) = some ((4, 2), ab_up (ab_up μ 2 6 1) 2 7 (μ 8 4)) := sorry
theorem i2b_sg {x : Int} (h : 0 ≤ x) (h2 : x < 256) : i2b (i2b x) = sg x := sorry
end Lx
end
section
section Lx
variable {μ : ab_M} {d : Nat} {T : Nat → Int} {n : Nat}
theorem c_atz {x : Nat} (h : cTx μ T n) : ∃ v, (ab_run wc (d + 1) 666 0 [(2, 8), (0, x)] [] μ) = some ((0, v), μ) ∧ (v = 34 ↔ atz T n x = 34) ∧ (v = 92 ↔ atz T n x = 92) ∧ (v = 120 ↔ atz T n x = 120) ∧ (v = 61 ↔ atz T n x = 61) ∧ hxv v = hxv (atz T n x) ∧ (v = 34 → v = atz T n x) ∧ (v = 92 → v = atz T n x) := sorry
theorem c_stringL {q : Nat} : ∀ m (p : Nat) (l : List Int) (μ : ab_M), n ≤ p + m → p ≤ n → cTx μ T n → μ 8 2 = p → μ 8 4 = q → μ 8 9 = l.length → l.length ≤ 60 → (∀ i x, l[i]? = some x → μ 9 i = sg x) →
    (∀ e l', lxS T n p l = some (e, l') → R3 (ab_run wc (d + 3) 679 15 [(2, 8), (3, 0)] [] μ) (fun μ' => (∀ a i, a ≠ 9 → a ≠ 8 ∨ (i ≠ 3 ∧ i ≠ 9 ∧ i ≠ 2) → μ' a i = μ a i) ∧ μ' 8 2 = e ∧ μ' 8 3 = 200104 ∧ μ' 8 9 = l'.length ∧ ∀ i x, l'[i]? = some x → μ' 9 i = sg x)) ∧
    (lxS T n p l = none → RT (ab_run wc (d + 3) 679 15 [(2, 8), (3, 0)] [] μ) (fun μ' => (∀ a i, a ≠ 2 → a ≠ 9 → a ≠ 8 ∨ (i ≠ 9 ∧ i ≠ 2) → μ' a i = μ a i) ∧ μ' 2 6 = 1 ∧ μ' 2 7 = q)) := sorry
end Lx
end
section
section Lx
variable {μ : ab_M} {d : Nat} {T : Nat → Int} {n : Nat}
theorem sg_k {x k : Int} (h : 0 ≤ x) (h2 : x < 256) (h3 : 0 ≤ k) (h4 : k < 128) : sg x = k ↔ x = k := sorry
theorem c_sign {q : Nat} (hq : q < n) (h : cTx μ T n) (h1 : μ 8 2 = q) (h2 : μ 8 4 = q) :
    (0 ≤ lxG T n q → R3 (ab_run wc (d + 2) 678 0 [(2, 8), (0, (sg (T q))), (3, 0)] [] μ) (fun μ' => (∀ a i, a ≠ 8 ∨ (i ≠ 3 ∧ i ≠ 6 ∧ i ≠ 2) → μ' a i = μ a i) ∧ μ' 8 2 = (if 256 ≤ lxG T n q then q + 2 else q + 1 : Nat) ∧ μ' 8 3 = 200105 ∧ μ' 8 6 = lxG T n q)) ∧
    (lxG T n q < 0 → RT (ab_run wc (d + 2) 678 0 [(2, 8), (0, (sg (T q))), (3, 0)] [] μ) (fun μ' => (∀ a i, a ≠ 2 → a ≠ 8 ∨ i ≠ 2 → μ' a i = μ a i) ∧ μ' 2 6 = 1 ∧ μ' 2 7 = q)) := sorry
theorem lxS_le : ∀ m (p : Nat) (l : List Int) (r : Nat × List Int), n ≤ p + m → lxS T n p l = some r → p < r.1 ∧ r.1 ≤ n := sorry
def cTk (μ : ab_M) (k : Nat × Nat × Nat × Int × List Int) : Prop :=
  μ 8 3 = 200100 + k.1 ∧ μ 8 4 = k.2.1 ∧ μ 8 5 = (k.2.2.1 : Int) - k.2.1 ∧ μ 8 2 = k.2.2.1 ∧ (k.1 = 2 ∨ k.1 = 5 → μ 8 6 = k.2.2.2.1) ∧ (k.1 = 3 → μ 8 7 = k.2.2.2.1) ∧ (k.1 = 4 → μ 8 9 = k.2.2.2.2.length ∧ ∀ i x, k.2.2.2.2[i]? = some x → μ 9 i = sg x)
theorem c_advance {p : Nat} (hp : p ≤ n) (h : cTx μ T n) (h1 : μ 8 2 = p) :
    (∀ k, lx T n p = some k → R3 (ab_run wc (d + 4) 665 0 [(2, 8), (3, 0)] [] μ) (fun μ' => cTk μ' k ∧ (∀ a i, a ≠ 8 → a ≠ 9 → μ' a i = μ a i) ∧ μ' 8 0 = μ 8 0 ∧ μ' 8 1 = μ 8 1)) ∧
    (lx T n p = none → RT (ab_run wc (d + 4) 665 0 [(2, 8), (3, 0)] [] μ) (fun μ' => (∀ a i, a ≠ 2 → a ≠ 8 → a ≠ 9 → μ' a i = μ a i) ∧ μ' 2 6 = 1 ∧ μ' 2 7 = lxB T n false p)) := sorry
end Lx
end
section
section Bt
theorem o32_tn (x : Int) : ((Int32.ofInt x).toBitVec.toNat : Int) = x % 4294967296 := sorry
theorem o64_tn (x : Int) : ((Int64.ofInt x).toBitVec.toNat : Int) = x % 18446744073709551616 := sorry
theorem o64_pn {x : Int} (h : 0 ≤ x) (h2 : x < 9223372036854775808) : (Int64.ofInt x).toBitVec.toNat = x.toNat := sorry
theorem o32_pn {x : Int} (h : 0 ≤ x) (h2 : x < 2147483648) : (Int32.ofInt x).toBitVec.toNat = x.toNat := sorry
theorem and32_mask {x : Int} {k : Nat} (hk : k < 31) : and32 x (2 ^ k - 1) = x % 2 ^ k := sorry
theorem and32_255 (x : Int) : and32 x 255 = x % 256 := sorry
theorem and64_mask {x : Int} {k : Nat} (hk : k < 63) : and64 x (2 ^ k - 1) = x % 2 ^ k := sorry
theorem sh_c32 : ∀ k : Fin 32, ((Int32.ofInt k.val &&& 31).toBitVec.smod 32).toNat = k.val := sorry
theorem sh_c64 : ∀ k : Fin 64, (((Int32.ofInt k.val).toInt64 &&& 63).toBitVec.smod 64).toNat = k.val := sorry
theorem t32_id {x : Int} (h : -2147483648 ≤ x) (h2 : x < 2147483648) : (Int32.ofInt x).toInt = x := sorry
theorem t64_id {x : Int} (h : -9223372036854775808 ≤ x) (h2 : x < 9223372036854775808) : (Int64.ofInt x).toInt = x := sorry
theorem shr32_id {x : Int} {k : Nat} (h : -2147483648 ≤ x) (h2 : x < 2147483648) (hk : k < 32) : shr32 x k = x / 2 ^ k := sorry
theorem shr64_id {x : Int} {k : Nat} (h : -9223372036854775808 ≤ x) (h2 : x < 9223372036854775808) (hk : k < 64) : shr64 x k = x / 2 ^ k := sorry
theorem shl64_id {x : Int} {k : Nat} (h : 0 ≤ x) (h2 : x * 2 ^ k < 9223372036854775808) (hk : k < 64) : shl64 x k = x * 2 ^ k := sorry
theorem or64_add {x y : Int} {k : Nat} (h : 0 ≤ x) (h2 : x * 2 ^ k + y < 9223372036854775808) (h3 : 0 ≤ y) (h4 : y < 2 ^ k) : or64 (x * 2 ^ k) y = x * 2 ^ k + y := sorry
theorem or_shl8 {h c : Int} (h0 : 0 ≤ h) (h1 : h < 36028797018963968) (c0 : 0 ≤ c) (c1 : c < 256) : or64 (shl64 h 8) c = 256 * h + c := sorry
theorem ushr64_id {x : Int} {k : Nat} (h : 0 ≤ x) (h2 : x < 9223372036854775808) (hk : k < 64) : ushr64 x k = x / 2 ^ k := sorry
end Bt
end
section
section Lt
variable {μ : ab_M} {d : Nat} {T : Nat → Int} {n : Nat}
def tTx (μ : ab_M) (T : Nat → Int) (n : Nat) : Prop := μ 7756 6 = n ∧ n ≤ 4000 ∧ ∀ k, k < n → 0 ≤ T k ∧ T k < 256 ∧ μ 7760 k = T k
theorem tTx.to {μ' : ab_M} (h : tTx μ T n) (h2 : ∀ i, μ' 7760 i = μ 7760 i) (h3 : μ' 7756 6 = μ 7756 6) : tTx μ' T n := sorry
theorem t_isL {x : Int} : (ab_run wt (d + 1) 91 0 [(2, 7756), (0, x)] [] μ) = some ((0, if 97 ≤ x ∧ x ≤ 122 ∨ 65 ≤ x ∧ x ≤ 90 ∨ x = 95 then 1 else 0), μ) := sorry
theorem t_isD {x : Int} : (ab_run wt (d + 1) 86 0 [(2, 7756), (0, x)] [] μ) = some ((0, if 48 ≤ x ∧ x ≤ 57 then 1 else 0), μ) := sorry
theorem t_blankL : ∀ m (p : Nat) (μ : ab_M), p + m = n → tTx μ T n → μ 7756 7 = p →
    (∃ μ', (ab_run wt (d + 1) 174 6 [(2, 7756), (3, 0), (3, 0)] [] μ) = (ab_run wt (d + 1) 174 2 [(2, 7756), (0, 0), (3, 0)] [] μ') ∧ μ' 7756 7 = lxB T n false p ∧ ∀ a i, a ≠ 7756 ∨ i ≠ 7 → μ' a i = μ a i) ∧
    (∃ μ', (ab_run wt (d + 1) 174 117 [(2, 7756), (0, 1), (3, 0)] [] μ) = (ab_run wt (d + 1) 174 2 [(2, 7756), (0, 0), (3, 0)] [] μ') ∧ μ' 7756 7 = lxB T n true p ∧ ∀ a i, a ≠ 7756 ∨ i ≠ 7 → μ' a i = μ a i) := sorry
theorem t_blank {p : Nat} (h : tTx μ T n) (hp : μ 7756 7 = p) (hn : p ≤ n) : ∃ μ', (ab_run wt (d + 1) 174 0 [(2, 7756), (3, 0), (3, 0)] [] μ) = (ab_run wt (d + 1) 174 2 [(2, 7756), (0, 0), (3, 0)] [] μ') ∧ μ' 7756 7 = lxB T n false p ∧ ∀ a i, a ≠ 7756 ∨ i ≠ 7 → μ' a i = μ a i := sorry
theorem t_wrong {x y : Int} (h : μ 7756 17 = 0) : (ab_run wt (d + 1) 340 0 [(2, 7756), (0, x), (0, y)] [] μ) = some ((0, 0), ab_up (ab_up μ 7756 17 x) 7756 18 y) := sorry
end Lt
end
section
section Nm
def nmk (l : List Int) (s : Nat) : Nat → Int
  | 0 => 0
  | k + 1 => 256 * nmk l s k + (l[s + k]?).getD 0
theorem nmk_rg {l : List Int} {s : Nat} (h : ∀ x ∈ l, 0 ≤ x ∧ x < 128) : ∀ k, 0 ≤ nmk l s k ∧ 2 * nmk l s k < 256 ^ k := sorry
theorem nmk_inj {l l' : List Int} {s : Nat} (h : ∀ x ∈ l, 0 ≤ x ∧ x < 128) (h' : ∀ x ∈ l', 0 ≤ x ∧ x < 128) : ∀ k, nmk l s k = nmk l' s k → ∀ i, i < k → (l[s + i]?).getD 0 = (l'[s + i]?).getD 0 := sorry
theorem nmk_ext {l l' : List Int} (h : ∀ x ∈ l, 0 < x ∧ x < 128) (h' : ∀ x ∈ l', 0 < x ∧ x < 128) (e : ∀ i : Nat, (l[i]?).getD 0 = (l'[i]?).getD 0) : l = l' := sorry
theorem name_inj {l l' : List Int} (h : ∀ x ∈ l, 0 < x ∧ x < 128) (h' : ∀ x ∈ l', 0 < x ∧ x < 128) (g : l.length ≤ 16) (g' : l'.length ≤ 16) : (nmk l 0 8 = nmk l' 0 8 ∧ nmk l 8 8 = nmk l' 8 8) ↔ l = l' := sorry
theorem nmk_zero {l : List Int} {s : Nat} : ∀ k, (∀ i, s ≤ i → i < s + k → l[i]? = none) → nmk l s k = 0 := sorry
theorem nmk_more {l : List Int} {k : Nat} (hk : l.length ≤ k) : ∀ j, nmk l 0 (k + j) = nmk l 0 k * 256 ^ j := sorry
def nmw (l : List Int) : Int := nmk l 0 l.length
theorem nmw_inj {l l' : List Int} (h : ∀ x ∈ l, 0 < x ∧ x < 128) (h' : ∀ x ∈ l', 0 < x ∧ x < 128) (g : l.length ≤ 8) (g' : l'.length ≤ 8) (e : nmw l = nmw l') : l = l' := sorry
theorem lxW_none {l : List Int} : ∀ m w, (∀ i, i < w + m → l ≠ pr_txt i) → lxW l w m = -1 := sorry
theorem lxW_word : ∀ w, w < 26 → lxW (pr_txt w) 0 26 = w := sorry
theorem wd_pos : ∀ w, w < 26 → (pr_txt w).length ≤ 8 ∧ ∀ c ∈ pr_txt w, 0 < c ∧ c < 128 := sorry
end Nm
end
section
section Lt
variable {μ : ab_M} {d : Nat} {T : Nat → Int} {n : Nat}
def wdF (v : Int) : Int := if v = 1701737837 then 0 else if v = 125779785511524 then 1 else if v = 32481164609020773 then 2 else if v = 7302757 then 3 else if v = 1801807216 then 4 else if v = 1835101817 then 5 else if v = 469786780261 then 6 else if v = 7168368 then 7 else if v = 1667329132 then 8 else if v = 1667591276 then 9 else if v = 26990 then 10 else if v = 7304564 then 11 else if v = 1717660012 then 12 else if v = 1651470188 then 13 else if v = 6909556 then 14 else if v = 1969843828 then 15 else if v = 2053729908 then 16 else if v = 6711672 then 17 else if v = 1819242087 then 18 else if v = 504330415719 then 19 else if v = 525805252199 then 20 else if v = 28826413560720999 then 21 else if v = 1952807028 then 22 else if v = 422944466291 then 23 else if v = 1953658213 then 24 else if v = 439721161573 then 25 else -1
theorem wdF_word : ∀ w, w < 26 → wdF (nmw (pr_txt w)) = w := sorry
theorem wdF_none {v : Int} (h : ∀ w, w < 26 → v ≠ nmw (pr_txt w)) : wdF v = -1 := sorry
theorem wdF_lxW {l : List Int} (h : ∀ x ∈ l, 0 < x ∧ x < 128) (g : l.length ≤ 8) : wdF (nmw l) = lxW l 0 26 := sorry
theorem lcm3_0 {x y : Int} : lcm3 x y = 0 ↔ x = y := sorry
theorem t_wordOf {l : List Int} {q e : Nat} (h1 : μ 7756 9 = q) (h2 : μ 7756 10 = e) (h3 : μ 7756 12 = nmk l 0 8) (h4 : μ 7756 13 = nmk l 8 8) (hl : q + l.length = e) (h0 : 0 < l.length) (h16 : l.length ≤ 16) (he : e ≤ 4000) (hb : ∀ x ∈ l, 0 < x ∧ x < 128) : (ab_run wt (d + 1) 326 0 [(2, 7756), (3, 0), (3, 0), (3, 0), (3, 0), (3, 0)] [] μ) = some ((0, lxW l 0 26), μ) := sorry
end Lt
end
section
section Lt
variable {μ : ab_M} {d : Nat} {T : Nat → Int} {n : Nat}
theorem t_nameL : ∀ m (p : Nat) (μ : ab_M), p + m = n → tTx μ T n → μ 7756 10 = p →
    ∃ μ', (ab_run wt (d + 2) 169 0 [(2, 7756), (3, 0), (3, 0), (3, 0)] [] μ) = (ab_run wt (d + 2) 169 56 [(2, 7756), (3, 0), (3, 0), (3, 0)] [] μ') ∧ μ' 7756 10 = lxN T n p ∧ ∀ a i, a ≠ 7756 ∨ i ≠ 10 → μ' a i = μ a i := sorry
theorem t_packL {l : List Int} {q e : Nat} (hl : q + l.length = e) (h16 : l.length ≤ 16) (h0 : 0 < l.length) (he : e ≤ n) (hT : ∀ i, i < l.length → l[i]? = some (T (q + i))) (hb : ∀ x ∈ l, 0 < x ∧ x < 128) : ∀ m (k : Nat) (μ : ab_M), k + m = 16 → tTx μ T n → μ 7756 9 = q → μ 7756 10 = e → (k ≤ 8 → μ 7756 12 = nmk l 0 k ∧ μ 7756 13 = 0) → (8 < k → μ 7756 12 = nmk l 0 8 ∧ μ 7756 13 = nmk l 8 (k - 8)) →
    R0 (ab_run wt (d + 2) 169 92 [(2, 7756), (0, k), (3, 0), (3, 0)] [] μ) (fun v μ' => v = 1 ∧ (∀ a i, a ≠ 7756 ∨ (i ≠ 12 ∧ i ≠ 13 ∧ i ≠ 14 ∧ i ≠ 8 ∧ i ≠ 7) → μ' a i = μ a i) ∧ μ' 7756 12 = nmk l 0 8 ∧ μ' 7756 13 = nmk l 8 8 ∧ μ' 7756 7 = e ∧ (0 ≤ lxW l 0 26 → μ' 7756 8 = 4 ∧ μ' 7756 14 = lxW l 0 26) ∧ (lxW l 0 26 < 0 → μ' 7756 8 = 1)) := sorry
end Lt
end
section
section Lt
variable {μ : ab_M} {d : Nat} {T : Nat → Int} {n : Nat}
theorem t_at {x : Nat} (h : tTx μ T n) : (ab_run wt (d + 1) 5 0 [(2, 7756), (0, x)] [] μ) = some ((0, atz T n x), μ) := sorry
theorem t_hex {x : Int} : (ab_run wt (d + 2) 77 0 [(2, 7756), (0, x)] [] μ) = some ((0, hxv x), μ) := sorry
theorem t_numberL {q : Nat} : ∀ m (p : Nat) (ok v : Int) (μ : ab_M), p + m = n → tTx μ T n → μ 7756 10 = p → μ 7756 9 = q → q ≤ p → (ok = 0 ∨ ok = 1) → μ 7756 17 = 0 → μ 7756 11 = v →
    ((lxD T n p v ok).2.2 = 1 ∧ (lxD T n p v ok).1 ≤ q + 19 → R0 (ab_run wt (d + 2) 182 7 [(2, 7756), (0, (1 - ok)), (3, 0)] [] μ) (fun r μ' => r = 1 ∧ (∀ a i, a ≠ 7756 ∨ (i ≠ 11 ∧ i ≠ 10 ∧ i ≠ 8 ∧ i ≠ 7) → μ' a i = μ a i) ∧ μ' 7756 8 = 2 ∧ μ' 7756 11 = (lxD T n p v ok).2.1 ∧ μ' 7756 10 = (lxD T n p v ok).1 ∧ μ' 7756 7 = (lxD T n p v ok).1)) ∧
    (¬ ((lxD T n p v ok).2.2 = 1 ∧ (lxD T n p v ok).1 ≤ q + 19) → R0 (ab_run wt (d + 2) 182 7 [(2, 7756), (0, (1 - ok)), (3, 0)] [] μ) (fun r μ' => r = 0 ∧ (∀ a i, a ≠ 7756 ∨ (i ≠ 11 ∧ i ≠ 10 ∧ i ≠ 17 ∧ i ≠ 18) → μ' a i = μ a i) ∧ μ' 7756 17 = 1 ∧ μ' 7756 18 = q)) := sorry
end Lt
end
section
section Lt
variable {μ : ab_M} {d : Nat} {T : Nat → Int} {n : Nat}
theorem t_stringL {q : Nat} (hq : q < n) : ∀ m (p : Nat) (l : List Int) (μ : ab_M), n ≤ p + m → p ≤ n → tTx μ T n → μ 7756 9 = q → μ 7756 17 = 0 → μ 7756 16 = l.length → l.length ≤ 60 → (∀ i x, l[i]? = some x → μ 7761 i = x) →
    (∀ e l', lxS T n p l = some (e, l') → R0 (ab_run wt (d + 3) 297 12 [(2, 7756), (0, p), (3, 0), (3, 0)] [] μ) (fun r μ' => r = 1 ∧ (∀ a i, a ≠ 7761 → a ≠ 7756 ∨ (i ≠ 16 ∧ i ≠ 10 ∧ i ≠ 8 ∧ i ≠ 7) → μ' a i = μ a i) ∧ μ' 7756 8 = 3 ∧ μ' 7756 10 = e ∧ μ' 7756 7 = e ∧ μ' 7756 16 = l'.length ∧ ∀ i x, l'[i]? = some x → μ' 7761 i = x)) ∧
    (lxS T n p l = none → R0 (ab_run wt (d + 3) 297 12 [(2, 7756), (0, p), (3, 0), (3, 0)] [] μ) (fun r μ' => r = 0 ∧ (∀ a i, a ≠ 7761 → a ≠ 7756 ∨ (i ≠ 16 ∧ i ≠ 17 ∧ i ≠ 18) → μ' a i = μ a i) ∧ μ' 7756 17 = 1 ∧ μ' 7756 18 = q)) := sorry
theorem t_sign {q : Nat} (hq : q < n) (h : tTx μ T n) (h1 : μ 7756 9 = q) (h2 : μ 7756 17 = 0) :
    (0 ≤ lxG T n q → R0 (ab_run wt (d + 2) 286 0 [(2, 7756), (0, (T q)), (3, 0)] [] μ) (fun r μ' => r = 1 ∧ (∀ a i, a ≠ 7756 ∨ (i ≠ 10 ∧ i ≠ 14 ∧ i ≠ 8 ∧ i ≠ 7) → μ' a i = μ a i) ∧ μ' 7756 8 = 5 ∧ μ' 7756 10 = (if 256 ≤ lxG T n q then q + 2 else q + 1 : Nat) ∧ μ' 7756 7 = (if 256 ≤ lxG T n q then q + 2 else q + 1 : Nat) ∧ μ' 7756 14 = if 256 ≤ lxG T n q then lxG T n q + 44 else lxG T n q)) ∧
    (lxG T n q < 0 → R0 (ab_run wt (d + 2) 286 0 [(2, 7756), (0, (T q)), (3, 0)] [] μ) (fun r μ' => r = 0 ∧ (∀ a i, a ≠ 7756 ∨ (i ≠ 10 ∧ i ≠ 14 ∧ i ≠ 17 ∧ i ≠ 18) → μ' a i = μ a i) ∧ μ' 7756 17 = 1 ∧ μ' 7756 18 = q)) := sorry
end Lt
end
section
section Lt
variable {μ : ab_M} {d : Nat} {T : Nat → Int} {n : Nat}
theorem slc_get : ∀ (m a i : Nat), i < m → (slc T a m)[i]? = some (T (a + i)) := sorry
theorem slc_mem {a m : Nat} {x : Int} (h : x ∈ slc T a m) : ∃ i, i < m ∧ x = T (a + i) := sorry
theorem lxN_all : ∀ m p, p + m = n → ∀ i, p ≤ i → i < lxN T n p → 0 < T i ∧ T i < 128 := sorry
def tkc (k : Nat) : Int := if k = 0 then 0 else if k = 1 then 1 else if k = 2 then 4 else if k = 3 then 2 else if k = 4 then 3 else 5
def tTk (μ : ab_M) (T : Nat → Int) (k : Nat × Nat × Nat × Int × List Int) : Prop :=
  μ 7756 8 = tkc k.1 ∧ μ 7756 9 = k.2.1 ∧ μ 7756 10 = k.2.2.1 ∧ μ 7756 7 = k.2.2.1 ∧ (k.1 = 2 → μ 7756 14 = k.2.2.2.1) ∧ (k.1 = 5 → μ 7756 14 = if 256 ≤ k.2.2.2.1 then k.2.2.2.1 + 44 else k.2.2.2.1) ∧ (k.1 = 3 → μ 7756 11 = k.2.2.2.1) ∧ (k.1 = 4 → μ 7756 16 = k.2.2.2.2.length ∧ ∀ i x, k.2.2.2.2[i]? = some x → μ 7761 i = x) ∧ (k.1 = 1 → μ 7756 12 = nmk (slc T k.2.1 (k.2.2.1 - k.2.1)) 0 8 ∧ μ 7756 13 = nmk (slc T k.2.1 (k.2.2.1 - k.2.1)) 8 8)
theorem t_next {p : Nat} (hp : p ≤ n) (h : tTx μ T n) (h1 : μ 7756 7 = p) (h2 : μ 7756 17 = 0) :
    (∀ k, lx T n p = some k → R0 (ab_run wt (d + 4) 174 0 [(2, 7756), (3, 0), (3, 0)] [] μ) (fun r μ' => r = 1 ∧ tTk μ' T k ∧ ∀ a i, a ≠ 7761 → a ≠ 7756 ∨ i < 7 ∨ 16 < i → μ' a i = μ a i)) ∧
    (lx T n p = none → R0 (ab_run wt (d + 4) 174 0 [(2, 7756), (3, 0), (3, 0)] [] μ) (fun r μ' => r = 0 ∧ (∀ a i, a ≠ 7761 → a ≠ 7756 ∨ i < 7 ∨ 18 < i → μ' a i = μ a i) ∧ μ' 7756 17 = 1 ∧ μ' 7756 18 = lxB T n false p)) := sorry
end Lt
end
section
section By
variable {μ μ' : ab_M} {d a b o o' : Nat} {l l' : List Int}
def cBy (μ : ab_M) (a o : Nat) (l : List Int) : Prop := ∀ (i : Nat) (x : Int), l[i]? = some x → 0 ≤ x ∧ x < 256 ∧ μ a (o + i) = sg x
def tBy (μ : ab_M) (a o : Nat) (l : List Int) : Prop := ∀ (i : Nat) (x : Int), l[i]? = some x → μ a (o + i) = x
theorem sg_inj {x y : Int} (h : 0 ≤ x) (h2 : x < 256) (h3 : 0 ≤ y) (h4 : y < 256) : sg x = sg y ↔ x = y := sorry
theorem sg_rg {x : Int} (h : 0 ≤ x) (h2 : x < 256) : -128 ≤ sg x ∧ sg x < 128 ∧ sg x % 256 = x := sorry
theorem sg_mod (x : Int) : i2b (i2b x) = sg (x % 256) := sorry
theorem lt_get {i : Nat} {x : Int} (h : l[i]? = some x) : i < l.length := sorry
theorem cBy.nil : cBy μ a o [] := sorry
theorem tBy.nil : tBy μ a o [] := sorry
theorem cBy.to (h : cBy μ a o l) (e : ∀ i, o ≤ i → i < o + l.length → μ' a i = μ a i) : cBy μ' a o l := sorry
theorem tBy.to (h : tBy μ a o l) (e : ∀ i, o ≤ i → i < o + l.length → μ' a i = μ a i) : tBy μ' a o l := sorry
theorem cBy.cons {x : Int} : cBy μ a o (x :: l) ↔ (0 ≤ x ∧ x < 256 ∧ μ a o = sg x) ∧ cBy μ a (o + 1) l := sorry
theorem tBy.cons {x : Int} : tBy μ a o (x :: l) ↔ μ a o = x ∧ tBy μ a (o + 1) l := sorry
theorem cBy.app : cBy μ a o (l ++ l') ↔ cBy μ a o l ∧ cBy μ a (o + l.length) l' := sorry
theorem tBy.app : tBy μ a o (l ++ l') ↔ tBy μ a o l ∧ tBy μ a (o + l.length) l' := sorry
theorem cBy.take {n : Nat} (h : cBy μ a o l) : cBy μ a o (l.take n) := sorry
theorem tBy.take {n : Nat} (h : tBy μ a o l) : tBy μ a o (l.take n) := sorry
theorem cBy.cp (h : cBy μ a o l) : cBy (ab_cp μ a o b o' l.length) b o' l := sorry
theorem pr_cp4 {la lb : Nat} (ha : wc_ar a = (4, la)) (hb : wc_ar b = (4, lb)) (h1 : o + l.length ≤ la) (h2 : o' + l.length ≤ lb) (h : cBy μ a o l) : pr_copy wc_ar [(2, (a : Int)), (0, (o : Int)), (2, (b : Int)), (0, (o' : Int)), (0, (l.length : Int))] μ = some ((3, 0), ab_cp μ a o b o' l.length) := sorry
theorem c_isSameL {n : Nat} {la lb : Nat} (ha : wc_ar a = (4, la)) (hb : wc_ar b = (4, lb)) (h1 : o + n ≤ la) (h2 : o' + n ≤ lb) (h3 : n < 100000) (h4 : o < 1000000) (h5 : o' < 1000000) : ∀ (l l' : List Int) (k : Nat), k + l.length = n → l'.length = l.length → cBy μ a (o + k) l → cBy μ b (o' + k) l' →
    (ab_run wc (d + 1) 420 11 [(2, a), (0, o), (0, n), (2, b), (0, (o')), (3, 0), (0, k)] [] μ) = some ((0, if l = l' then 1 else 0), μ) := sorry
theorem c_isSame {la lb : Nat} (ha : wc_ar a = (4, la)) (hb : wc_ar b = (4, lb)) (h1 : o + l.length ≤ la) (h2 : o' + l'.length ≤ lb) (h3 : l.length < 100000) (h4 : o < 1000000) (h5 : o' < 1000000) (c1 : cBy μ a o l) (c2 : cBy μ b o' l') :
    (ab_run wc (d + 1) 420 0 [(2, a), (0, o), (0, (l.length)), (2, b), (0, (o')), (0, (l'.length)), (3, 0)] [] μ) = some ((0, if l = l' then 1 else 0), μ) := sorry
end By
end
section
section Rw
variable {μ μ' : ab_M} {d ra ba cap : Nat} {l l' : List Int}
def isRw (ra ba cap : Nat) : Prop := wc_ob ra 3 = true ∧ wh_st ra 0 = (ba : Int) ∧ wc_ar ba = (4, cap) ∧ ra ≠ ba ∧ cap ≤ 16000
def cRow (μ : ab_M) (ra ba cap : Nat) (l : List Int) : Prop := μ ra 1 = l.length ∧ l.length ≤ cap ∧ cBy μ ba 0 l
theorem cRow.to (h : cRow μ ra ba cap l) (h1 : μ' ra 1 = μ ra 1) (h2 : ∀ i, i < l.length → μ' ba i = μ ba i) : cRow μ' ra ba cap l := sorry
theorem c_putF {x : Int} (hr : isRw ra ba cap) (h : cRow μ ra ba cap l) (hl : l.length = cap) : (ab_run wc (d + 1) 654 0 [(2, ra), (0, x)] [] μ) = some ((0, 0), μ) := sorry
theorem c_put {x : Int} (hr : isRw ra ba cap) (h : cRow μ ra ba cap l) (hl : l.length < cap) :
    (ab_run wc (d + 1) 654 0 [(2, ra), (0, x)] [] μ) = some ((0, 1), ab_up (ab_up μ ra 1 ((l.length + 1 : Nat) : Int)) ba l.length (sg (x % 256))) ∧ cRow (ab_up (ab_up μ ra 1 ((l.length + 1 : Nat) : Int)) ba l.length (sg (x % 256))) ra ba cap (l ++ [x % 256]) := sorry
theorem c_puts {b o lb : Nat} (hr : isRw ra ba cap) (h : cRow μ ra ba cap l) (hb : wc_ar b = (4, lb)) (h1 : o + l'.length ≤ lb) (h2 : cBy μ b o l') (h3 : l'.length < 100000) (hl : l.length + l'.length ≤ cap) :
    (ab_run wc (d + 1) 655 0 [(2, ra), (2, b), (0, o), (0, (l'.length))] [] μ) = some ((0, 1), ab_up (ab_cp μ b o ba l.length l'.length) ra 1 ((l.length + l'.length : Nat) : Int)) ∧ cRow (ab_up (ab_cp μ b o ba l.length l'.length) ra 1 ((l.length + l'.length : Nat) : Int)) ra ba cap (l ++ l') := sorry
theorem c_putsF {b o n : Nat} (hr : isRw ra ba cap) (h : cRow μ ra ba cap l) (h3 : n < 100000) (hl : cap < l.length + n) : (ab_run wc (d + 1) 655 0 [(2, ra), (2, b), (0, o), (0, n)] [] μ) = some ((0, 0), μ) := sorry
theorem c_become {rb bb cb : Nat} (hr : isRw ra ba cap) (hs : isRw rb bb cb) (h : cRow μ rb bb cb l) (hl : l.length ≤ cap) (h1 : bb ≠ ra) (h2 : bb ≠ ba) (h3 : rb ≠ ra) :
    (ab_run wc (d + 1) 651 0 [(2, ra), (2, rb)] [] μ) = some ((3, 0), ab_cp (ab_up μ ra 1 l.length) bb 0 ba 0 l.length) ∧ cRow (ab_cp (ab_up μ ra 1 l.length) bb 0 ba 0 l.length) ra ba cap l := sorry
end Rw
end
section
section Rc
variable {μ μ' : ab_M} {d : Nat} {tp : List Int} {rw : Nat → List Int}
def rwA (r : Nat) : Nat := 1338 + 2 * r
def rbA (r : Nat) : Nat := 1339 + 2 * r
theorem rw_tab : ∀ r, r < 8 → wh_st 5 r = ((rwA r : Nat) : Int) ∧ wc_ob (rwA r) 3 = true ∧ wh_st (rwA r) 0 = ((rbA r : Nat) : Int) ∧ wc_ar (rbA r) = (4, 4000) ∧ rwA r ≠ rbA r ∧ rwA r ≠ 3 ∧ rwA r ≠ 4 ∧ rbA r ≠ 3 ∧ rbA r ≠ 4 := sorry
theorem rw_ne : ∀ r, r < 8 → ∀ s, s < 8 → r ≠ s → rwA r ≠ rwA s ∧ rwA r ≠ rbA s ∧ rbA r ≠ rwA s ∧ rbA r ≠ rbA s := sorry
theorem rw_nb : ∀ r, r < 8 → ∀ s, s < 8 → rwA r ≠ rbA s := sorry
theorem rw_in : ∀ r, r < 8 → 1337 < rwA r ∧ rwA r < 1354 ∧ 1337 < rbA r ∧ rbA r < 1354 := sorry
theorem rw_is {r : Nat} (h : r < 8) : isRw (rwA r) (rbA r) 4000 := sorry
theorem tp_is : isRw 3 4 4000 := sorry
def cR (μ : ab_M) (tp : List Int) (rw : Nat → List Int) : Prop := cRow μ 3 4 4000 tp ∧ ∀ r, r < 8 → cRow μ (rwA r) (rbA r) 4000 (rw r)
def frC (μ μ' : ab_M) : Prop := ∀ a i, a ≠ 3 → a ≠ 4 → a < 1337 ∨ 1354 ≤ a → μ' a i = μ a i
theorem cR.to (h : cR μ tp rw) (e : ∀ a i, a = 3 ∨ a = 4 ∨ (1337 < a ∧ a < 1354) → μ' a i = μ a i) : cR μ' tp rw := sorry
theorem c_isIn {x y : Int} : (ab_run wc (d + 1) 414 0 [(0, x), (0, y)] [] μ) = some ((0, if 0 ≤ x ∧ x < y then 1 else 0), μ) := sorry
theorem c_isRow {x : Int} : (ab_run wc (d + 2) 419 0 [(2, 1), (0, x)] [] μ) = some ((0, if 0 ≤ x ∧ x < 8 then 1 else 0), μ) := sorry
theorem n10 : ¬ (1 : Int) = 0 := sorry
theorem c_size {x : Int} (h : cR μ tp rw) : (ab_run wc (d + 3) 513 0 [(2, 1), (0, x)] [] μ) = some ((0, if 0 ≤ x ∧ x < 8 then ((rw x.toNat).length : Int) else -1), μ) := sorry
theorem c_octet {x y : Int} (h : cR μ tp rw) : (ab_run wc (d + 3) 465 0 [(2, 1), (0, x), (0, y)] [] μ) = some ((0, if 0 ≤ x ∧ x < 8 ∧ 0 ≤ y then (rw x.toNat)[y.toNat]?.getD (-1) else -1), μ) := sorry
theorem c_cut {x : Int} (h : cR μ tp rw) : R0 (ab_run wc (d + 1) 387 0 [(2, 1), (0, x)] [] μ) (fun v μ' => v = (if x < 0 ∨ tp.length < x then -1 else tp.length - x) ∧ cR μ' (if x < 0 ∨ tp.length < x then tp else tp.take (tp.length - x.toNat)) rw ∧ frC μ μ') := sorry
def upR (rw : Nat → List Int) (r : Nat) (l : List Int) : Nat → List Int := fun s => if s = r then l else rw s
theorem upR_eq {r : Nat} {l : List Int} : upR rw r l r = l := sorry
theorem upR_ne {r s : Nat} {l : List Int} (h : s ≠ r) : upR rw r l s = rw s := sorry
theorem cR.row {r : Nat} {l : List Int} (h : cR μ tp rw) (hr : r < 8) (h1 : cRow μ' (rwA r) (rbA r) 4000 l) (e : ∀ a i, a ≠ rwA r → a ≠ rbA r → μ' a i = μ a i) : cR μ' tp (upR rw r l) := sorry
theorem cR.tape {l : List Int} (h : cR μ tp rw) (h1 : cRow μ' 3 4 4000 l) (e : ∀ a i, a ≠ 3 → a ≠ 4 → μ' a i = μ a i) : cR μ' l rw := sorry
theorem c_loadB {x : Int} (hx : ¬ (0 ≤ x ∧ x < 8)) : (ab_run wc (d + 3) 445 0 [(2, 1), (0, x)] [] μ) = some ((0, -1), μ) := sorry
theorem c_load {r : Nat} (h : cR μ tp rw) (hr : r < 8) : R0 (ab_run wc (d + 3) 445 0 [(2, 1), (0, r)] [] μ) (fun v μ' => v = tp.length ∧ cR μ' [] (upR rw r tp) ∧ frC μ μ') := sorry
theorem c_unloadB {x : Int} (hx : ¬ (0 ≤ x ∧ x < 8)) : (ab_run wc (d + 3) 561 0 [(2, 1), (0, x)] [] μ) = some ((0, -1), μ) := sorry
theorem c_unloadF {r : Nat} (h : cR μ tp rw) (hr : r < 8) (hl : 4000 < tp.length + (rw r).length) : (ab_run wc (d + 3) 561 0 [(2, 1), (0, r)] [] μ) = some ((0, -3), μ) := sorry
theorem c_unload {r : Nat} (h : cR μ tp rw) (hr : r < 8) (hl : tp.length + (rw r).length ≤ 4000) : R0 (ab_run wc (d + 3) 561 0 [(2, 1), (0, r)] [] μ) (fun v μ' => v = (tp.length : Int) + (rw r).length ∧ cR μ' (tp ++ rw r) rw ∧ frC μ μ') := sorry
end Rc
end
section
section Rc
variable {μ μ' : ab_M} {d : Nat} {tp : List Int} {rw : Nat → List Int}
theorem xor_lo {x y : Int} (h : 0 ≤ x) (h2 : x < 256) (h3 : 0 ≤ y) (h4 : y < 256) : xor32 (sg x) y % 256 = xor32 x y ∧ 0 ≤ xor32 x y ∧ xor32 x y < 256 := sorry
theorem c_alterB {x y z : Int} (h : cR μ tp rw) (hx : ¬ (0 ≤ x ∧ x < 8 ∧ 0 ≤ y ∧ y < (rw x.toNat).length ∧ 0 ≤ z ∧ z < 256)) : (ab_run wc (d + 3) 369 0 [(2, 1), (0, x), (0, y), (0, z)] [] μ) = some ((0, -1), μ) := sorry
theorem c_alter {r i : Nat} {x z : Int} (h : cR μ tp rw) (hr : r < 8) (hi : (rw r)[i]? = some x) (h1 : 0 ≤ z) (h2 : z < 256) : R0 (ab_run wc (d + 3) 369 0 [(2, 1), (0, r), (0, i), (0, z)] [] μ) (fun v μ' => v = xor32 x z ∧ cR μ' tp (upR rw r ((rw r).set i (xor32 x z))) ∧ frC μ μ') := sorry
theorem c_equalB {x y : Int} (hx : ¬ (0 ≤ x ∧ x < 8 ∧ 0 ≤ y ∧ y < 8)) : (ab_run wc (d + 3) 397 0 [(2, 1), (0, x), (0, y)] [] μ) = some ((0, -1), μ) := sorry
theorem c_equal {r s : Nat} (h : cR μ tp rw) (hr : r < 8) (hs : s < 8) : (ab_run wc (d + 3) 397 0 [(2, 1), (0, r), (0, s)] [] μ) = some ((0, if rw r = rw s then 1 else 0), μ) := sorry
end Rc
end
section
section Rf
variable {μ μ' : ab_M} {d ra ba cap : Nat} {tp : List Int} {rw : Nat → List Int}
def hiB (x : Int) : Nat → List Int
  | 0 => []
  | n + 1 => x / 256 ^ n % 256 :: hiB x n
theorem hiB_len (x : Int) : ∀ n, (hiB x n).length = n := sorry
theorem p256 (n : Nat) : (2 : Int) ^ (8 * n) = 256 ^ n := sorry
theorem c_rowHighL {x : Int} (hr : isRw ra ba cap) (h1 : -9223372036854775808 ≤ x) (h2 : x < 9223372036854775808) : ∀ (k : Nat) (l : List Int) (μ : ab_M), k ≤ 8 → cRow μ ra ba cap l → l.length + k ≤ cap →
    R3 (ab_run wc (d + 2) 500 9 [(2, ra), (1, x), (3, 0), (3, 0), (0, (8 * (k : Int) - 8))] [] μ) (fun μ' => cRow μ' ra ba cap (l ++ hiB x k) ∧ ∀ a i, a ≠ ra ∨ i ≠ 1 → a ≠ ba → μ' a i = μ a i) := sorry
theorem c_rowHigh {x : Int} {n : Nat} {l : List Int} (hr : isRw ra ba cap) (h1 : -9223372036854775808 ≤ x) (h2 : x < 9223372036854775808) (hn : n ≤ 8) (h : cRow μ ra ba cap l) (hl : l.length + n ≤ cap) :
    R3 (ab_run wc (d + 2) 500 0 [(2, ra), (1, x), (3, 0), (0, n), (3, 0)] [] μ) (fun μ' => cRow μ' ra ba cap (l ++ hiB x n) ∧ ∀ a i, a ≠ ra ∨ i ≠ 1 → a ≠ ba → μ' a i = μ a i) := sorry
def fdB (f : Nat → Int) : Nat → Nat → List Int
  | _, 0 => []
  | i, m + 1 => hiB (f i) 4 ++ fdB f (i + 1) m
theorem fdB_len (f : Nat → Int) : ∀ m i, (fdB f i m).length = 4 * m := sorry
theorem ar1337 : wc_ar 1337 = (1, 5) := sorry
theorem c_feedL {f : Nat → Int} (hf : ∀ i, -2147483648 ≤ f i ∧ f i < 2147483648) : ∀ (m i : Nat) (l : List Int) (μ : ab_M), i + m = 5 → cRow μ 3 4 4000 l → l.length + 4 * m ≤ 4000 → (∀ j, j < 5 → μ 1337 j = f j) →
    R0 (ab_run wc (d + 3) 398 64 [(2, 1), (3, 0), (3, 0), (3, 0), (3, 0), (3, 0), (3, 0), (2, 1337), (0, 5), (0, i), (3, 0)] [] μ) (fun v μ' => v = ((l ++ fdB f i m).length : Int) ∧ cRow μ' 3 4 4000 (l ++ fdB f i m) ∧ ∀ a i, a ≠ 3 → a ≠ 4 → μ' a i = μ a i) := sorry
def fv (a b c e f : Int) (i : Nat) : Int := if i = 0 then a else if i = 1 then b else if i = 2 then c else if i = 3 then e else f
theorem c_feedF {x1 x2 x3 x4 x5 : Int} (h : cR μ tp rw) (hl : 4000 < tp.length + 20) : (ab_run wc (d + 4) 398 0 [(2, 1), (0, x1), (0, x2), (0, x3), (0, x4), (0, x5), (3, 0), (3, 0), (3, 0), (3, 0), (3, 0)] [] μ) = some ((0, -3), μ) := sorry
theorem c_feed {x1 x2 x3 x4 x5 : Int} (h : cR μ tp rw) (hl : tp.length + 20 ≤ 4000) (hf : ∀ i, -2147483648 ≤ fv x1 x2 x3 x4 x5 i ∧ fv x1 x2 x3 x4 x5 i < 2147483648) :
    R0 (ab_run wc (d + 4) 398 0 [(2, 1), (0, x1), (0, x2), (0, x3), (0, x4), (0, x5), (3, 0), (3, 0), (3, 0), (3, 0), (3, 0)] [] μ) (fun v μ' => v = (tp.length : Int) + 20 ∧ cR μ' (tp ++ fdB (fv x1 x2 x3 x4 x5) 0 5) rw ∧ frC μ μ') := sorry
end Rf
end
section
section Rt
variable {μ μ' : ab_M} {d : Nat} {tp : List Int} {rw : Nat → List Int}
def tR (μ : ab_M) (tp : List Int) (rw : Nat → List Int) : Prop := (tp.length ≤ 4000 ∧ μ 7756 1 = tp.length ∧ tBy μ 7757 0 tp) ∧ ∀ r, r < 8 → (rw r).length ≤ 4000 ∧ μ 7759 r = (rw r).length ∧ tBy μ 7758 (4000 * r) (rw r)
def frT (μ μ' : ab_M) : Prop := ∀ a i, a ≠ 7756 ∨ i ≠ 1 → a ≠ 7757 → a ≠ 7758 → a ≠ 7759 → μ' a i = μ a i
theorem tR.to (h : tR μ tp rw) (e : ∀ a i, (a = 7756 ∧ i = 1) ∨ a = 7757 ∨ a = 7758 ∨ a = 7759 → μ' a i = μ a i) : tR μ' tp rw := sorry
theorem tR.row {r : Nat} {l : List Int} (h : tR μ tp rw) (hr : r < 8) (hl : l.length ≤ 4000) (h1 : μ' 7759 r = l.length) (h2 : tBy μ' 7758 (4000 * r) l) (e : ∀ a i, (a ≠ 7759 ∨ i ≠ r) → (a ≠ 7758 ∨ i < 4000 * r ∨ 4000 * r + 4000 ≤ i) → μ' a i = μ a i) : tR μ' tp (upR rw r l) := sorry
theorem tR.tape {l : List Int} (h : tR μ tp rw) (hl : l.length ≤ 4000) (h1 : μ' 7756 1 = l.length) (h2 : tBy μ' 7757 0 l) (e : ∀ a i, a ≠ 7756 → a ≠ 7757 → μ' a i = μ a i) : tR μ' l rw := sorry
theorem t_isRow {x : Int} : (ab_run wt (d + 1) 100 0 [(2, 7756), (0, x)] [] μ) = some ((0, if 0 ≤ x ∧ x < 8 then 1 else 0), μ) := sorry
theorem t_size {x : Int} (h : tR μ tp rw) : (ab_run wt (d + 3) 288 0 [(2, 7756), (0, x)] [] μ) = some ((0, if 0 ≤ x ∧ x < 8 then ((rw x.toNat).length : Int) else -1), μ) := sorry
theorem t_octet {x y : Int} (h : tR μ tp rw) : (ab_run wt (d + 3) 183 0 [(2, 7756), (0, x), (0, y)] [] μ) = some ((0, if 0 ≤ x ∧ x < 8 ∧ 0 ≤ y then (rw x.toNat)[y.toNat]?.getD (-1) else -1), μ) := sorry
theorem t_cut {x : Int} (h : tR μ tp rw) : R0 (ab_run wt (d + 1) 33 0 [(2, 7756), (0, x)] [] μ) (fun v μ' => v = (if x < 0 ∨ tp.length < x then -1 else tp.length - x) ∧ tR μ' (if x < 0 ∨ tp.length < x then tp else tp.take (tp.length - x.toNat)) rw ∧ frT μ μ') := sorry
theorem t_loadB {x : Int} (hx : ¬ (0 ≤ x ∧ x < 8)) : (ab_run wt (d + 3) 156 0 [(2, 7756), (0, x), (3, 0)] [] μ) = some ((0, -1), μ) := sorry
theorem t_loadL {r : Nat} (hr : r < 8) (hl : tp.length ≤ 4000) : ∀ (l : List Int) (k : Nat) (μ : ab_M), k + l.length = tp.length → μ 7756 1 = tp.length → tBy μ 7757 k l →
    R0 (ab_run wt (d + 1) 156 12 [(2, 7756), (0, r), (0, k)] [] μ) (fun v μ' => v = tp.length ∧ tBy μ' 7758 (4000 * r + k) l ∧ μ' 7759 r = tp.length ∧ μ' 7756 1 = 0 ∧ ∀ a i, (a ≠ 7759 ∨ i ≠ r) → (a ≠ 7756 ∨ i ≠ 1) → (a ≠ 7758 ∨ i < 4000 * r + k ∨ 4000 * r + 4000 ≤ i) → μ' a i = μ a i) := sorry
theorem t_load {r : Nat} (h : tR μ tp rw) (hr : r < 8) : R0 (ab_run wt (d + 3) 156 0 [(2, 7756), (0, r), (3, 0)] [] μ) (fun v μ' => v = tp.length ∧ tR μ' [] (upR rw r tp) ∧ frT μ μ') := sorry
end Rt
end
section
section Rt
variable {μ μ' : ab_M} {d : Nat} {tp : List Int} {rw : Nat → List Int}
theorem t_unloadB {x : Int} (hx : ¬ (0 ≤ x ∧ x < 8)) : (ab_run wt (d + 3) 316 0 [(2, 7756), (0, x), (3, 0)] [] μ) = some ((0, -1), μ) := sorry
theorem t_unloadF {r : Nat} (h : tR μ tp rw) (hr : r < 8) (hl : 4000 < tp.length + (rw r).length) : (ab_run wt (d + 3) 316 0 [(2, 7756), (0, r), (3, 0)] [] μ) = some ((0, -3), μ) := sorry
theorem t_unloadL {r : Nat} (hr : r < 8) (hl : tp.length + (rw r).length ≤ 4000) (hr4 : (rw r).length ≤ 4000) : ∀ (l : List Int) (k : Nat) (μ : ab_M), k + l.length = (rw r).length → μ 7756 1 = tp.length → μ 7759 r = (rw r).length → tBy μ 7758 (4000 * r + k) l →
    R0 (ab_run wt (d + 1) 316 32 [(2, 7756), (0, r), (0, k)] [] μ) (fun v μ' => v = (tp.length : Int) + (rw r).length ∧ tBy μ' 7757 (tp.length + k) l ∧ μ' 7756 1 = (tp.length : Int) + (rw r).length ∧ ∀ a i, (a ≠ 7756 ∨ i ≠ 1) → (a ≠ 7757 ∨ i < tp.length + k) → μ' a i = μ a i) := sorry
theorem t_unload {r : Nat} (h : tR μ tp rw) (hr : r < 8) (hl : tp.length + (rw r).length ≤ 4000) : R0 (ab_run wt (d + 3) 316 0 [(2, 7756), (0, r), (3, 0)] [] μ) (fun v μ' => v = (tp.length : Int) + (rw r).length ∧ tR μ' (tp ++ rw r) rw ∧ frT μ μ') := sorry
theorem t_alterB {x y z : Int} (h : tR μ tp rw) (hx : ¬ (0 ≤ x ∧ x < 8 ∧ 0 ≤ y ∧ y < (rw x.toNat).length ∧ 0 ≤ z ∧ z < 256)) : (ab_run wt (d + 3) 2 0 [(2, 7756), (0, x), (0, y), (0, z)] [] μ) = some ((0, -1), μ) := sorry
theorem t_alter {r i : Nat} {x z : Int} (h : tR μ tp rw) (hr : r < 8) (hi : (rw r)[i]? = some x) (h1 : 0 ≤ z) (h2 : z < 256) : R0 (ab_run wt (d + 3) 2 0 [(2, 7756), (0, r), (0, i), (0, z)] [] μ) (fun v μ' => v = xor32 x z ∧ tR μ' tp (upR rw r ((rw r).set i (xor32 x z))) ∧ frT μ μ') := sorry
theorem t_equalB {x y : Int} (hx : ¬ (0 ≤ x ∧ x < 8 ∧ 0 ≤ y ∧ y < 8)) : (ab_run wt (d + 3) 50 0 [(2, 7756), (0, x), (0, y), (3, 0), (3, 0)] [] μ) = some ((0, -1), μ) := sorry
theorem t_equal0 {r s k : Nat} (hr : r < 8) : (ab_run wt (d + 1) 50 42 [(2, 7756), (0, r), (0, s), (0, 0), (0, k)] [] μ) = some ((0, 0), μ) := sorry
theorem t_equalL {r s n : Nat} (hr : r < 8) (hs : s < 8) (hn : n ≤ 4000) : ∀ (l l' : List Int) (k : Nat), k + l.length = n → l'.length = l.length → μ 7759 r = n → tBy μ 7758 (4000 * r + k) l → tBy μ 7758 (4000 * s + k) l' →
    (ab_run wt (d + 1) 50 42 [(2, 7756), (0, r), (0, s), (0, 1), (0, k)] [] μ) = some ((0, if l = l' then 1 else 0), μ) := sorry
theorem t_equal {r s : Nat} (h : tR μ tp rw) (hr : r < 8) (hs : s < 8) : (ab_run wt (d + 3) 50 0 [(2, 7756), (0, r), (0, s), (3, 0), (3, 0)] [] μ) = some ((0, if rw r = rw s then 1 else 0), μ) := sorry
end Rt
end
section
section Rt
variable {μ μ' : ab_M} {d : Nat} {tp : List Int} {rw : Nat → List Int}
theorem tw_layL {x : Int} (h1 : -2147483648 ≤ x) (h2 : x < 2147483648) : ∀ (k : Nat) (l : List Int) (μ : ab_M), k ≤ 4 → l.length + k ≤ 4000 → μ 7756 1 = l.length → tBy μ 7757 0 l →
    R3 (ab_run wt (d + 1) 140 3 [(2, 7756), (0, x), (0, (8 * (k : Int) - 8))] [] μ) (fun μ' => μ' 7756 1 = ((l ++ hiB x k).length : Int) ∧ tBy μ' 7757 0 (l ++ hiB x k) ∧ ∀ a i, (a ≠ 7756 ∨ i ≠ 1) → a ≠ 7757 → μ' a i = μ a i) := sorry
theorem tw_lay {x : Int} {l : List Int} (h1 : -2147483648 ≤ x) (h2 : x < 2147483648) (hl : l.length + 4 ≤ 4000) (g1 : μ 7756 1 = l.length) (g2 : tBy μ 7757 0 l) :
    R3 (ab_run wt (d + 1) 140 0 [(2, 7756), (0, x), (3, 0)] [] μ) (fun μ' => μ' 7756 1 = ((l ++ hiB x 4).length : Int) ∧ tBy μ' 7757 0 (l ++ hiB x 4) ∧ ∀ a i, (a ≠ 7756 ∨ i ≠ 1) → a ≠ 7757 → μ' a i = μ a i) := sorry
theorem t_feedF {x1 x2 x3 x4 x5 : Int} (h : tR μ tp rw) (hl : 4000 < tp.length + 20) : (ab_run wt (d + 4) 55 0 [(2, 7756), (0, x1), (0, x2), (0, x3), (0, x4), (0, x5)] [] μ) = some ((0, -3), μ) := sorry
theorem t_feed {x1 x2 x3 x4 x5 : Int} (h : tR μ tp rw) (hl : tp.length + 20 ≤ 4000) (hf : ∀ i, -2147483648 ≤ fv x1 x2 x3 x4 x5 i ∧ fv x1 x2 x3 x4 x5 i < 2147483648) :
    R0 (ab_run wt (d + 4) 55 0 [(2, 7756), (0, x1), (0, x2), (0, x3), (0, x4), (0, x5)] [] μ) (fun v μ' => v = (tp.length : Int) + 20 ∧ tR μ' (tp ++ fdB (fv x1 x2 x3 x4 x5) 0 5) rw ∧ frT μ μ') := sorry
end Rt
end
section
section Sc
variable {μ μ' : ab_M}
abbrev SF : Type := Nat → Nat → Nat → Int
abbrev NF : Type := Nat → Nat → Nat → List Int
def isS (b : Nat) : Prop := b = 11 ∨ b = 1354 ∨ b = 2594 ∨ b = 3834 ∨ b = 5074
def tyA (b k : Nat) : Nat := b + (14 + 39 * k)
def fdA (b k j : Nat) : Nat := b + (21 + 39 * k + j)
def onA (b k j : Nat) : Nat := b + (45 + 39 * k + j)
def svA (b v : Nat) : Nat := b + (1184 + 14 * v)
def caA (b v j : Nat) : Nat := b + (1188 + 14 * v + j)
def inA (a i : Nat) : Nat := a + i
theorem sc_tab {b : Nat} (h : isS b) : wc_ob b 6 = true ∧ wh_st b 2 = ((inA b 1 : Nat) : Int) ∧ wh_st b 3 = ((inA b 3 : Nat) : Int) ∧ wh_st b 4 = ((inA b 5 : Nat) : Int) ∧ wh_st b 6 = ((inA b 6 : Nat) : Int) ∧ wc_ar (inA b 5) = (33, 30) ∧ wc_ar (inA b 6) = (35, 4) ∧
    wc_ob (inA b 1) 3 = true ∧ wh_st (inA b 1) 0 = ((inA b 2 : Nat) : Int) ∧ wc_ar (inA b 2) = (4, 16000) ∧ wc_ob (inA b 3) 3 = true ∧ wh_st (inA b 3) 0 = ((inA b 4 : Nat) : Int) ∧ wc_ar (inA b 4) = (4, 4000) ∧ inA b 1 ≠ inA b 2 ∧ inA b 3 ≠ inA b 4 := sorry
theorem ty_tab {b : Nat} (h : isS b) : ∀ k, k < 30 → wh_st (inA b 5) k = ((tyA b k : Nat) : Int) ∧ wc_ob (tyA b k) 7 = true ∧ wh_st (tyA b k) 6 = ((inA (tyA b k) 1 : Nat) : Int) ∧ wh_st (tyA b k) 7 = ((inA (tyA b k) 2 : Nat) : Int) ∧ wh_st (tyA b k) 8 = ((inA (tyA b k) 3 : Nat) : Int) ∧
    wh_st (tyA b k) 9 = ((inA (tyA b k) 4 : Nat) : Int) ∧ wh_st (tyA b k) 10 = ((inA (tyA b k) 5 : Nat) : Int) ∧ wh_st (tyA b k) 12 = ((inA (tyA b k) 6 : Nat) : Int) ∧ wc_ar (inA (tyA b k) 1) = (1, 16) ∧ wc_ar (inA (tyA b k) 2) = (1, 16) ∧ wc_ar (inA (tyA b k) 3) = (1, 16) ∧ wc_ar (inA (tyA b k) 4) = (29, 24) ∧ wc_ar (inA (tyA b k) 5) = (31, 8) ∧ wc_ar (inA (tyA b k) 6) = (1, 24) := sorry
theorem fd_tab {b : Nat} (h : isS b) : ∀ k, k < 30 → ∀ j, j < 24 → wh_st (inA (tyA b k) 4) j = ((fdA b k j : Nat) : Int) ∧ wc_ob (fdA b k j) 8 = true := sorry
theorem on_tab {b : Nat} (h : isS b) : ∀ k, k < 30 → ∀ j, j < 8 → wh_st (inA (tyA b k) 5) j = ((onA b k j : Nat) : Int) ∧ wc_ob (onA b k j) 9 = true := sorry
theorem sv_tab {b : Nat} (h : isS b) : ∀ k, k < 4 → wh_st (inA b 6) k = ((svA b k : Nat) : Int) ∧ wc_ob (svA b k) 10 = true ∧ wh_st (svA b k) 4 = ((inA (svA b k) 1 : Nat) : Int) ∧ wh_st (svA b k) 6 = ((inA (svA b k) 2 : Nat) : Int) ∧ wh_st (svA b k) 7 = ((inA (svA b k) 3 : Nat) : Int) ∧ wc_ar (inA (svA b k) 1) = (37, 10) ∧ wc_ar (inA (svA b k) 2) = (1, 8) ∧ wc_ar (inA (svA b k) 3) = (1, 8) := sorry
theorem ca_tab {b : Nat} (h : isS b) : ∀ k, k < 4 → ∀ j, j < 10 → wh_st (inA (svA b k) 1) j = ((caA b k j : Nat) : Int) ∧ wc_ob (caA b k j) 11 = true := sorry
def nmOK (l : List Int) : Prop := 0 < l.length ∧ l.length ≤ 16 ∧ ∀ x ∈ l, 0 < x ∧ x < 128
def fdOK (S : SF) (N : NF) (k j : Nat) : Prop := nmOK (N 1 k j) ∧ (1 ≤ S 10 k j ∧ S 10 k j ≤ 2000) ∧ (0 ≤ S 11 k j ∧ S 11 k j ≤ 3) ∧ (0 ≤ S 12 k j ∧ S 12 k j ≤ 12) ∧ (S 12 k j < 11 → S 13 k j = -2) ∧ (11 ≤ S 12 k j → 0 ≤ S 13 k j ∧ S 13 k j < S 0 0 0 ∧ S 2 (S 13 k j).toNat 0 = S 12 k j - 11) ∧
  (S 11 k j = 3 → 1 ≤ S 14 k j ∧ S 14 k j ≤ 9) ∧ (S 11 k j ≠ 3 → S 14 k j = -2) ∧ (S 15 k j = -2 ∨ 0 ≤ S 15 k j ∧ S 15 k j < S 4 k 0 ∧ S 11 k j = 0) ∧ (-2 ≤ S 16 k j ∧ S 16 k j < 4096) ∧ (-2 ≤ S 17 k j ∧ S 17 k j < 24) ∧ (-2 ≤ S 18 k j ∧ S 18 k j < 4096) ∧ (-9223372036854775808 ≤ S 19 k j ∧ S 19 k j < 9223372036854775808) ∧ (N 7 k j).length ≤ 60
def tyOK (S : SF) (N : NF) (k : Nat) : Prop := nmOK (N 0 k 0) ∧ (S 2 k 0 = 0 ∨ S 2 k 0 = 1) ∧ (S 2 k 0 = 0 → 1 ≤ S 3 k 0 ∧ S 3 k 0 ≤ 16 ∧ S 4 k 0 = 0 ∧ S 5 k 0 = 0 ∧ S 6 k 0 = 0 ∧ ∀ j : Nat, (j : Int) < S 3 k 0 → nmOK (N 2 k j) ∧ -32768 ≤ S 25 k j ∧ S 25 k j < 32768) ∧
  (S 2 k 0 = 1 → 0 ≤ S 3 k 0 ∧ S 3 k 0 ≤ 24 ∧ 0 ≤ S 4 k 0 ∧ S 4 k 0 ≤ 8 ∧ (0 ≤ S 5 k 0 ∧ S 5 k 0 ≤ 64) ∧ (0 ≤ S 6 k 0 ∧ S 6 k 0 ≤ 24) ∧ (∀ j : Nat, (j : Int) < S 3 k 0 → fdOK S N k j) ∧ ∀ o : Nat, (o : Int) < S 4 k 0 → nmOK (N 3 k o)) ∧ 0 ≤ S 7 k 0 ∧ S 7 k 0 ≤ S 8 k 0 ∧ S 8 k 0 ≤ (N 8 0 0).length
def svOK (S : SF) (N : NF) (v : Nat) : Prop := nmOK (N 4 v 0) ∧ (0 ≤ S 40 v 0 ∧ S 40 v 0 ≤ 10) ∧ (0 ≤ S 41 v 0 ∧ S 41 v 0 ≤ 8) ∧ 0 ≤ S 42 v 0 ∧ S 42 v 0 ≤ S 43 v 0 ∧ S 43 v 0 ≤ (N 8 0 0).length ∧ (∀ c : Nat, (c : Int) < S 40 v 0 → nmOK (N 5 v c) ∧ (0 ≤ S 50 v c ∧ S 50 v c ≤ 1000) ∧ (0 ≤ S 51 v c ∧ S 51 v c < S 0 0 0) ∧ (0 ≤ S 52 v c ∧ S 52 v c < S 0 0 0) ∧ (0 ≤ S 53 v c ∧ S 53 v c ≤ 100) ∧ (0 ≤ S 54 v c ∧ S 54 v c ≤ 100)) ∧ ∀ l : Nat, (l : Int) < S 41 v 0 → nmOK (N 6 v l)
def scOK (S : SF) (N : NF) : Prop := (0 ≤ S 0 0 0 ∧ S 0 0 0 ≤ 30) ∧ (0 ≤ S 1 0 0 ∧ S 1 0 0 ≤ 4) ∧ (N 8 0 0).length ≤ 8000 ∧ (∀ k : Nat, (k : Int) < S 0 0 0 → tyOK S N k) ∧ ∀ v : Nat, (v : Int) < S 1 0 0 → svOK S N v
def cNm (μ : ab_M) (b : Nat) (from_ size : Int) (l : List Int) : Prop := size = l.length ∧ 0 ≤ from_ ∧ from_ + l.length ≤ 16000 ∧ cBy μ (inA b 2) from_.toNat l
def cFd (μ : ab_M) (b : Nat) (S : SF) (N : NF) (k j : Nat) : Prop :=
  (μ (fdA b k j) 7 = S 10 k j ∧ μ (fdA b k j) 2 = S 11 k j ∧ μ (fdA b k j) 3 = 200000 + S 12 k j ∧ μ (fdA b k j) 4 = S 13 k j ∧ μ (fdA b k j) 5 = (if S 14 k j = -2 then 0 else 200000 + S 14 k j) ∧ μ (fdA b k j) 6 = (if S 15 k j = -2 then -1 else S 15 k j) ∧ μ (fdA b k j) 11 = S 16 k j ∧ μ (fdA b k j) 12 = S 17 k j ∧ μ (fdA b k j) 13 = S 18 k j) ∧
  cNm μ b (μ (fdA b k j) 0) (μ (fdA b k j) 1) (N 1 k j) ∧ μ (fdA b k j) 8 = S 19 k j ∧ (μ (fdA b k j) 10 = (N 7 k j).length ∧ 0 ≤ μ (fdA b k j) 9 ∧ μ (fdA b k j) 9 + (N 7 k j).length ≤ 4000 ∧ cBy μ (inA b 4) (μ (fdA b k j) 9).toNat (N 7 k j))
def cTy (μ : ab_M) (b : Nat) (S : SF) (N : NF) (k : Nat) : Prop :=
  (μ (tyA b k) 0 = S 2 k 0 ∧ μ (tyA b k) 5 = S 3 k 0 ∧ μ (tyA b k) 11 = S 4 k 0 ∧ μ (tyA b k) 13 = S 5 k 0 ∧ μ (tyA b k) 14 = S 6 k 0 ∧ μ (tyA b k) 3 = S 7 k 0 ∧ μ (tyA b k) 4 = S 8 k 0) ∧ cNm μ b (μ (tyA b k) 1) (μ (tyA b k) 2) (N 0 k 0) ∧
  (S 2 k 0 = 0 → ∀ j : Nat, (j : Int) < S 3 k 0 → μ (inA (tyA b k) 3) j = S 25 k j ∧ cNm μ b (μ (inA (tyA b k) 1) j) (μ (inA (tyA b k) 2) j) (N 2 k j)) ∧
  (S 2 k 0 = 1 → ∀ j : Nat, (j : Int) < S 3 k 0 → cFd μ b S N k j ∧ μ (inA (tyA b k) 6) j = S 20 k j) ∧
  (S 2 k 0 = 1 → ∀ o : Nat, (o : Int) < S 4 k 0 → (μ (onA b k o) 2 = S 30 k o ∧ μ (onA b k o) 3 = S 31 k o ∧ μ (onA b k o) 4 = S 32 k o) ∧ cNm μ b (μ (onA b k o) 0) (μ (onA b k o) 1) (N 3 k o))
def cSv (μ : ab_M) (b : Nat) (S : SF) (N : NF) (v : Nat) : Prop :=
  (μ (svA b v) 5 = S 40 v 0 ∧ μ (svA b v) 8 = S 41 v 0 ∧ μ (svA b v) 2 = S 42 v 0 ∧ μ (svA b v) 3 = S 43 v 0) ∧ cNm μ b (μ (svA b v) 0) (μ (svA b v) 1) (N 4 v 0) ∧
  (∀ c : Nat, (c : Int) < S 40 v 0 → (μ (caA b v c) 2 = S 50 v c ∧ μ (caA b v c) 3 = S 51 v c ∧ μ (caA b v c) 4 = S 52 v c ∧ μ (caA b v c) 6 = S 53 v c ∧ μ (caA b v c) 7 = S 54 v c) ∧ cNm μ b (μ (caA b v c) 0) (μ (caA b v c) 1) (N 5 v c)) ∧
  ∀ l : Nat, (l : Int) < S 41 v 0 → cNm μ b (μ (inA (svA b v) 2) l) (μ (inA (svA b v) 3) l) (N 6 v l)
def cSc (μ : ab_M) (b : Nat) (S : SF) (N : NF) : Prop := (μ b 5 = S 0 0 0 ∧ μ b 7 = S 1 0 0) ∧ cRow μ (inA b 1) (inA b 2) 16000 (N 8 0 0) ∧ (∀ k : Nat, (k : Int) < S 0 0 0 → cTy μ b S N k) ∧ ∀ v : Nat, (v : Int) < S 1 0 0 → cSv μ b S N v
def cSs (μ : ab_M) (bs : Nat → Nat) (th : Nat → Int) (S : Nat → SF) (N : Nat → NF) : Prop :=
  (∀ s, s < 5 → isS (bs s)) ∧ (∀ s, s < 5 → ∀ t, t < 5 → bs s = bs t → s = t) ∧ μ 1 8 = bs 4 ∧ ∀ s, s < 4 → μ 10 s = bs s ∧ μ (bs s) 0 = th s ∧ (th s = 0 ∨ th s = 1) ∧ (th s = 1 → scOK (S s) (N s) ∧ cSc μ (bs s) (S s) (N s))
def tNm (hi lo : Int) (l : List Int) : Prop := hi = nmk l 0 8 ∧ lo = nmk l 8 8
def tFd (μ : ab_M) (f : Nat) (S : SF) (N : NF) (k j : Nat) : Prop :=
  (μ 7778 f = S 10 k j ∧ μ 7779 f = S 11 k j ∧ μ 7780 f = S 12 k j ∧ μ 7781 f = S 13 k j ∧ (S 11 k j = 3 → μ 7782 f = S 14 k j) ∧ μ 7783 f = S 15 k j ∧ μ 7788 f = S 16 k j ∧ μ 7789 f = S 17 k j ∧ μ 7790 f = S 18 k j) ∧
  tNm (μ 7775 f) (μ 7776 f) (N 1 k j) ∧ (S 12 k j ≠ 9 → S 12 k j ≠ 10 → μ 7785 f = S 19 k j) ∧ (S 12 k j = 9 ∨ S 12 k j = 10 → μ 7787 f = (N 7 k j).length ∧ tBy μ 7806 (60 * f) (N 7 k j))
def tTy (μ : ab_M) (t : Nat) (S : SF) (N : NF) (k : Nat) : Prop :=
  (μ 7768 t = S 2 k 0 ∧ μ 7769 t = S 3 k 0 ∧ μ 7770 t = S 4 k 0 ∧ (S 2 k 0 = 1 → μ 7771 t = S 5 k 0 ∧ μ 7772 t = S 6 k 0) ∧ μ 7773 t = S 7 k 0 ∧ μ 7774 t = S 8 k 0) ∧ tNm (μ 7765 t) (μ 7766 t) (N 0 k 0) ∧
  (S 2 k 0 = 0 → ∀ j : Nat, (j : Int) < S 3 k 0 → μ 7816 (16 * t + j) = S 25 k j ∧ tNm (μ 7813 (16 * t + j)) (μ 7814 (16 * t + j)) (N 2 k j)) ∧
  (S 2 k 0 = 1 → ∀ j : Nat, (j : Int) < S 3 k 0 → tFd μ (24 * t + j) S N k j) ∧
  (S 2 k 0 = 1 → ∀ o : Nat, (o : Int) < S 4 k 0 → (μ 7810 (8 * t + o) = S 30 k o ∧ μ 7811 (8 * t + o) = S 31 k o ∧ μ 7812 (8 * t + o) = S 32 k o) ∧ tNm (μ 7807 (8 * t + o)) (μ 7808 (8 * t + o)) (N 3 k o))
def tSv (μ : ab_M) (q : Nat) (S : SF) (N : NF) (v : Nat) : Prop :=
  (μ 7822 q = S 40 v 0 ∧ μ 7823 q = S 41 v 0 ∧ μ 7824 q = S 42 v 0 ∧ μ 7825 q = S 43 v 0) ∧ tNm (μ 7819 q) (μ 7820 q) (N 4 v 0) ∧
  (∀ c : Nat, (c : Int) < S 40 v 0 → (μ 7832 (10 * q + c) = S 50 v c ∧ μ 7835 (10 * q + c) = S 51 v c ∧ μ 7836 (10 * q + c) = S 52 v c ∧ μ 7837 (10 * q + c) = S 53 v c ∧ μ 7838 (10 * q + c) = S 54 v c) ∧ tNm (μ 7829 (10 * q + c)) (μ 7830 (10 * q + c)) (N 5 v c)) ∧
  ∀ l : Nat, (l : Int) < S 41 v 0 → tNm (μ 7826 (8 * q + l)) (μ 7827 (8 * q + l)) (N 6 v l)
def tSc (μ : ab_M) (s : Nat) (S : SF) (N : NF) : Prop := (μ 7763 s = S 0 0 0 ∧ μ 7764 s = S 1 0 0) ∧ (μ 7857 s = (N 8 0 0).length ∧ tBy μ 7856 (9000 * s) (N 8 0 0)) ∧ (∀ k : Nat, (k : Int) < S 0 0 0 → tTy μ (30 * s + k) S N k) ∧ ∀ v : Nat, (v : Int) < S 1 0 0 → tSv μ (4 * s + v) S N v
def tSs (μ : ab_M) (th : Nat → Int) (S : Nat → SF) (N : Nat → NF) : Prop := ∀ s, s < 4 → μ 7762 s = th s ∧ (th s = 0 ∨ th s = 1) ∧ (th s = 1 → scOK (S s) (N s) ∧ tSc μ s (S s) (N s))
end Sc
end
section
section Sc
variable {μ μ' : ab_M} {d : Nat} {bs : Nat → Nat} {th : Nat → Int} {S : Nat → SF} {N : Nat → NF}
def qTypes (th : Nat → Int) (S : Nat → SF) (x1 x2 : Int) : Int := if ¬ (0 ≤ x1 ∧ x1 < 4) ∨ ¬ (0 ≤ x2 ∧ x2 < 2) then -1 else if th x1.toNat = 0 then -2 else if x2 = 0 then S x1.toNat 0 0 0 else S x1.toNat 1 0 0
def qType (th : Nat → Int) (S : Nat → SF) (x1 x2 x3 : Int) : Int := if ¬ (0 ≤ x1 ∧ x1 < 4) ∨ x2 < 0 ∨ ¬ (0 ≤ x3 ∧ x3 < 5) then -1 else if th x1.toNat = 0 then -2 else if x2 < S x1.toNat 0 0 0 then (if x3 = 0 then S x1.toNat 2 x2.toNat 0 else if x3 = 1 then S x1.toNat 3 x2.toNat 0 else if x3 = 2 then S x1.toNat 4 x2.toNat 0 else if x3 = 3 then S x1.toNat 5 x2.toNat 0 else S x1.toNat 6 x2.toNat 0) else -1
def qFd (S : SF) (k j : Nat) (x4 : Int) : Int := if x4 = 0 then S 10 k j else if x4 = 1 then S 11 k j else if x4 = 2 then S 12 k j else if x4 = 3 then S 13 k j else if x4 = 4 then S 14 k j else if x4 = 5 then S 15 k j else if x4 = 6 then S 16 k j else if x4 = 7 then S 17 k j else S 18 k j
def qField (th : Nat → Int) (S : Nat → SF) (x1 x2 x3 x4 : Int) : Int := if ¬ (0 ≤ x1 ∧ x1 < 4) ∨ x2 < 0 ∨ x3 < 0 ∨ ¬ (0 ≤ x4 ∧ x4 < 9) then -1 else if th x1.toNat = 0 then -2 else if x2 < S x1.toNat 0 0 0 ∧ x3 < S x1.toNat 3 x2.toNat 0 then (if S x1.toNat 2 x2.toNat 0 = 0 then (if x4 = 0 then S x1.toNat 25 x2.toNat x3.toNat else -1) else qFd (S x1.toNat) x2.toNat x3.toNat x4) else -1
theorem c_types {x1 x2 : Int} (h : cSs μ bs th S N) : (ab_run wc (d + 2) 560 0 [(2, 1), (0, x1), (0, x2)] [] μ) = some ((0, qTypes th S x1 x2), μ) := sorry
theorem c_type {x1 x2 x3 : Int} (h : cSs μ bs th S N) : (ab_run wc (d + 2) 558 0 [(2, 1), (0, x1), (0, x2), (0, x3), (3, 0)] [] μ) = some ((0, qType th S x1 x2 x3), μ) := sorry
theorem kd_tab : ∀ k : Nat, k < 13 → wc_ob (200000 + k) 4 = true := sorry
theorem kd_ob {x : Int} (h : 0 ≤ x) (h2 : x < 13) : wc_ob (200000 + x).toNat 4 = true ∧ pr_ord [(2, 200000 + x)] μ = some ((0, x), μ) := sorry
theorem c_field {x1 x2 x3 x4 : Int} (h : cSs μ bs th S N) : (ab_run wc (d + 2) 399 0 [(2, 1), (0, x1), (0, x2), (0, x3), (0, x4), (3, 0), (3, 0)] [] μ) = some ((0, qField th S x1 x2 x3 x4), μ) := sorry
end Sc
end
section
section Sc
variable {μ μ' : ab_M} {d : Nat} {th : Nat → Int} {S : Nat → SF} {N : Nat → NF}
theorem tw_isSchema {x : Int} : (ab_run wt (d + 1) 103 0 [(2, 7756), (0, x)] [] μ) = some ((0, if 0 ≤ x ∧ x < 4 then 1 else 0), μ) := sorry
theorem tw_isType {x y : Int} (h : 0 ≤ x) (h2 : x < 4) : (ab_run wt (d + 1) 107 0 [(2, 7756), (0, x), (0, y)] [] μ) = some ((0, if 0 ≤ y ∧ y < μ 7763 x.toNat then 1 else 0), μ) := sorry
theorem tw_types {x1 x2 : Int} (h : tSs μ th S N) : (ab_run wt (d + 2) 312 0 [(2, 7756), (0, x1), (0, x2)] [] μ) = some ((0, qTypes th S x1 x2), μ) := sorry
theorem tw_type {x1 x2 x3 : Int} (h : tSs μ th S N) : (ab_run wt (d + 2) 309 0 [(2, 7756), (0, x1), (0, x2), (0, x3), (3, 0)] [] μ) = some ((0, qType th S x1 x2 x3), μ) := sorry
theorem tw_field {x1 x2 x3 x4 : Int} (h : tSs μ th S N) : (ab_run wt (d + 2) 56 0 [(2, 7756), (0, x1), (0, x2), (0, x3), (0, x4), (3, 0), (3, 0)] [] μ) = some ((0, qField th S x1 x2 x3 x4), μ) := sorry
end Sc
end
section
section Sc
variable {μ μ' : ab_M} {d : Nat} {bs : Nat → Nat} {th : Nat → Int} {S : Nat → SF} {N : Nat → NF}
def qCa (S : SF) (v c : Nat) (x4 : Int) : Int := if x4 = 2 then S 50 v c else if x4 = 3 then S 51 v c else if x4 = 4 then S 52 v c else if x4 = 5 then S 53 v c else S 54 v c
def qService (th : Nat → Int) (S : Nat → SF) (x1 x2 x3 x4 : Int) : Int := if ¬ (0 ≤ x1 ∧ x1 < 4) ∨ x2 < 0 ∨ ¬ (0 ≤ x4 ∧ x4 < 7) ∨ 1 < x4 ∧ x3 < 0 then -1 else if th x1.toNat = 0 then -2 else if x2 < S x1.toNat 1 0 0 then (if x4 = 0 then S x1.toNat 40 x2.toNat 0 else if x4 = 1 then S x1.toNat 41 x2.toNat 0 else if x3 < S x1.toNat 40 x2.toNat 0 then qCa (S x1.toNat) x2.toNat x3.toNat x4 else -1) else -1
theorem c_service {x1 x2 x3 x4 : Int} (h : cSs μ bs th S N) : (ab_run wc (d + 2) 508 0 [(2, 1), (0, x1), (0, x2), (0, x3), (0, x4), (3, 0), (3, 0)] [] μ) = some ((0, qService th S x1 x2 x3 x4), μ) := sorry
theorem tw_service {x1 x2 x3 x4 : Int} (h : tSs μ th S N) : (ab_run wt (d + 2) 280 0 [(2, 7756), (0, x1), (0, x2), (0, x3), (0, x4), (3, 0), (3, 0)] [] μ) = some ((0, qService th S x1 x2 x3 x4), μ) := sorry
end Sc
end
section
section Nb
variable {μ : ab_M} {d : Nat} {l : List Int}
theorem nmk_dig {s : Nat} (h : ∀ x ∈ l, 0 ≤ x ∧ x < 128) : ∀ k i, i < k → nmk l s k / 256 ^ (k - 1 - i) % 256 = (l[s + i]?).getD 0 := sorry
theorem tw_byteOf {x : Int} (hl : nmOK l) (hx : 0 ≤ x) : (ab_run wt (d + 1) 14 0 [(2, 7756), (1, (nmk l 0 8)), (3, 0), (1, (nmk l 8 8)), (3, 0), (0, x), (3, 0)] [] μ) = some ((0, (l[x.toNat]?).getD (-1)), μ) := sorry
end Nb
end
section
section Sc
variable {μ μ' : ab_M} {d : Nat} {bs : Nat → Nat} {th : Nat → Int} {S : Nat → SF} {N : Nat → NF}
def qNm (S : SF) (N : NF) (x2 x3 x4 : Int) : List Int :=
  if x2 < 3 then (if x3 < S 0 0 0 then (if x2 = 0 then N 0 x3.toNat 0 else if x2 = 1 then (if x4 < S 3 x3.toNat 0 then (if S 2 x3.toNat 0 = 0 then N 2 x3.toNat x4.toNat else N 1 x3.toNat x4.toNat) else []) else (if x4 < S 4 x3.toNat 0 then N 3 x3.toNat x4.toNat else [])) else [])
  else (if x3 < S 1 0 0 then (if x2 = 3 then N 4 x3.toNat 0 else if x2 = 4 then (if x4 < S 40 x3.toNat 0 then N 5 x3.toNat x4.toNat else []) else (if x4 < S 41 x3.toNat 0 then N 6 x3.toNat x4.toNat else [])) else [])
def qName (th : Nat → Int) (S : Nat → SF) (N : Nat → NF) (x1 x2 x3 x4 x5 : Int) : Int := if ¬ (0 ≤ x1 ∧ x1 < 4) ∨ ¬ (0 ≤ x2 ∧ x2 < 6) ∨ x3 < 0 ∨ x5 < 0 ∨ x2 ≠ 0 ∧ x2 ≠ 3 ∧ x4 < 0 then -1 else if th x1.toNat = 0 then -2 else ((qNm (S x1.toNat) (N x1.toNat) x2 x3 x4)[x5.toNat]?).getD (-1)
theorem cBy_lo {a o : Nat} {l : List Int} (h : cBy μ a o l) (hl : nmOK l) {i : Nat} {x : Int} (hx : l[i]? = some x) : μ a (o + i) = x := sorry
theorem c_name391 {b : Nat} {x5 x7 x8 : Int} {l : List Int} (hs : isS b) (h5 : 0 ≤ x5) (hl : nmOK l) (hn : cNm μ b x7 x8 l) : (ab_run wc (d + 2) 452 391 [(3, 0), (3, 0), (3, 0), (3, 0), (3, 0), (0, x5), (2, b), (0, x7), (0, x8), (3, 0)] [] μ) = some ((0, (l[x5.toNat]?).getD (-1)), μ) := sorry
theorem gD {i : Nat} : (([] : List Int)[i]?).getD (-1) = -1 := sorry
theorem c_name {x1 x2 x3 x4 x5 : Int} (h : cSs μ bs th S N) : (ab_run wc (d + 2) 452 0 [(2, 1), (0, x1), (0, x2), (0, x3), (0, x4), (0, x5), (3, 0), (3, 0), (3, 0), (3, 0)] [] μ) = some ((0, qName th S N x1 x2 x3 x4 x5), μ) := sorry
end Sc
end
section
section Sc
variable {μ μ' : ab_M} {d : Nat} {th : Nat → Int} {S : Nat → SF} {N : Nat → NF}
theorem tw_name {x1 x2 x3 x4 x5 : Int} (h : tSs μ th S N) : (ab_run wt (d + 2) 167 0 [(2, 7756), (0, x1), (0, x2), (0, x3), (0, x4), (0, x5), (3, 0), (3, 0)] [] μ) = some ((0, qName th S N x1 x2 x3 x4 x5), μ) := sorry
end Sc
end
section
section Sc
variable {μ μ' : ab_M} {d : Nat} {bs : Nat → Nat} {th : Nat → Int} {S : Nat → SF} {N : Nat → NF} {tp : List Int} {rw : Nat → List Int}
theorem c_max {x y : Int} : (ab_run wc (d + 1) 362 0 [(0, x), (0, y)] [] μ) = some ((0, if x < y then y else x), μ) := sorry
theorem take1 {l : List Int} {a o : Nat} (h : cBy μ a o l) (n : Nat) : cBy μ a o (l.take n) := sorry
theorem c_describeB {x1 x2 : Int} (h : ¬ (0 ≤ x1 ∧ x1 < 4) ∨ ¬ (0 ≤ x2 ∧ x2 < 8)) : (ab_run wc (d + 3) 390 0 [(2, 1), (0, x1), (0, x2), (3, 0), (3, 0)] [] μ) = some ((0, -1), μ) := sorry
theorem c_describeN {s r : Nat} (h : cSs μ bs th S N) (hs : s < 4) (hr : r < 8) (ht : th s = 0) : (ab_run wc (d + 3) 390 0 [(2, 1), (0, s), (0, r), (3, 0), (3, 0)] [] μ) = some ((0, -2), μ) := sorry
theorem c_describeF {s r : Nat} (h : cSs μ bs th S N) (hs : s < 4) (hr : r < 8) (ht : th s = 1) (hl : 4001 < (N s 8 0 0).length) : (ab_run wc (d + 3) 390 0 [(2, 1), (0, s), (0, r), (3, 0), (3, 0)] [] μ) = some ((0, -3), μ) := sorry
theorem c_describe {s r n : Nat} (h : cSs μ bs th S N) (hR : cR μ tp rw) (hs : s < 4) (hr : r < 8) (ht : th s = 1) (hl : (N s 8 0 0).length ≤ 4001) (hn : n = (N s 8 0 0).length - 1) : R0 (ab_run wc (d + 3) 390 0 [(2, 1), (0, s), (0, r), (3, 0), (3, 0)] [] μ) (fun v μ' => v = n ∧ cR μ' tp (upR rw r ((N s 8 0 0).take n)) ∧ frC μ μ') := sorry
theorem tw_describeB {x1 x2 : Int} (h : ¬ (0 ≤ x1 ∧ x1 < 4) ∨ ¬ (0 ≤ x2 ∧ x2 < 8)) : (ab_run wt (d + 3) 38 0 [(2, 7756), (0, x1), (0, x2), (3, 0), (3, 0)] [] μ) = some ((0, -1), μ) := sorry
theorem tw_describeN {s r : Nat} (h : tSs μ th S N) (hs : s < 4) (hr : r < 8) (ht : th s = 0) : (ab_run wt (d + 3) 38 0 [(2, 7756), (0, s), (0, r), (3, 0), (3, 0)] [] μ) = some ((0, -2), μ) := sorry
theorem tw_describeF {s r : Nat} (h : tSs μ th S N) (hs : s < 4) (hr : r < 8) (ht : th s = 1) (hl : 4001 < (N s 8 0 0).length) : (ab_run wt (d + 3) 38 0 [(2, 7756), (0, s), (0, r), (3, 0), (3, 0)] [] μ) = some ((0, -3), μ) := sorry
theorem tw_describeL {s r n : Nat} (hs : s < 4) (hr : r < 8) (hn : n ≤ 4000) : ∀ (l : List Int) (k : Nat) (μ : ab_M), k + l.length = n → tBy μ 7856 (9000 * s + k) l →
    R0 (ab_run wt (d + 1) 38 65 [(2, 7756), (0, s), (0, r), (0, n), (0, k)] [] μ) (fun v μ' => v = n ∧ tBy μ' 7758 (4000 * r + k) l ∧ μ' 7759 r = n ∧ ∀ a i, (a ≠ 7759 ∨ i ≠ r) → (a ≠ 7758 ∨ i < 4000 * r + k ∨ 4000 * r + 4000 ≤ i) → μ' a i = μ a i) := sorry
theorem tw_describe {s r n : Nat} (h : tSs μ th S N) (hR : tR μ tp rw) (hs : s < 4) (hr : r < 8) (ht : th s = 1) (hl : (N s 8 0 0).length ≤ 4001) (hn : n = (N s 8 0 0).length - 1) : R0 (ab_run wt (d + 3) 38 0 [(2, 7756), (0, s), (0, r), (3, 0), (3, 0)] [] μ) (fun v μ' => v = n ∧ tR μ' tp (upR rw r ((N s 8 0 0).take n)) ∧ frT μ μ') := sorry
end Sc
end
section
section Kd
variable {μ : ab_M} {d : Nat} {k : Int}
def kBits (k : Int) : Int := if k = 0 then 1 else if k = 11 then 16 else if 9 ≤ k then 0 else if k ≤ 4 then 32 else 64
def kWire (k : Int) : Int := if k = 8 then 1 else if k = 4 then 5 else if k = 9 ∨ k = 10 ∨ k = 12 then 2 else 0
noncomputable def kCut (k v : Int) : Int := if k = 0 then (if v = 0 then 0 else 1) else if k = 1 ∨ k = 3 then w32 v else if k = 2 ∨ k = 4 then v % 4294967296 else if k = 11 then i2s (w32 v) else v
def kFit (k v : Int) : Prop := if k = 0 then v = 0 ∨ v = 1 else if k = 1 ∨ k = 3 then -2147483648 ≤ v ∧ v ≤ 2147483647 else if k = 2 ∨ k = 4 then 0 ≤ v ∧ v ≤ 4294967295 else if k = 6 ∨ k = 8 then 0 ≤ v else if k = 11 then -32768 ≤ v ∧ v ≤ 32767 else True
def kSort (k : Int) : Int := if k = 0 then 1 else if k = 11 then 3 else if k ≤ 4 then 4 else if k ≤ 8 then 5 else if k = 12 then 7 else 6
def kCmp (k a b : Int) : Int := if k = 6 ∨ k = 8 then (if a % 18446744073709551616 < b % 18446744073709551616 then -1 else if a = b then 0 else 1) else if a < b then -1 else if a = b then 0 else 1
theorem kd_all {P : Int → Prop} (h : ∀ n : Fin 13, P (n.val : Int)) (h1 : 0 ≤ k) (h2 : k ≤ 12) : P k := sorry
theorem kd_st (h1 : 0 ≤ k) (h2 : k ≤ 12) : wc_ob (200000 + k).toNat 4 = true ∧ wh_st (200000 + k).toNat 0 = kBits k ∧ wh_st (200000 + k).toNat 1 = kWire k := sorry
theorem kd_ord (h1 : 0 ≤ k) (h2 : k ≤ 12) : pr_ord [(2, 200000 + k)] μ = some ((0, k), μ) := sorry
theorem i2s_rg (x : Int) : -32768 ≤ i2s x ∧ i2s x < 32768 := sorry
theorem i2s_id {x : Int} (h : -32768 ≤ x) (h2 : x < 32768) : i2s x = x := sorry
theorem and64_u (x : Int) : and64 x 4294967295 = x % 4294967296 := sorry
theorem c_isNumber (h1 : 0 ≤ k) (h2 : k ≤ 12) : (ab_run wc (d + 1) 661 0 [(2, (200000 + k))] [] μ) = some ((0, if k ≤ 8 ∨ k = 11 then 1 else 0), μ) := sorry
theorem c_isBytes : (ab_run wc (d + 1) 659 0 [(2, (200000 + k))] [] μ) = some ((0, if k = 9 ∨ k = 10 then 1 else 0), μ) := sorry
theorem c_isPlainLong : (ab_run wc (d + 1) 662 0 [(2, (200000 + k))] [] μ) = some ((0, if k = 6 ∨ k = 8 then 1 else 0), μ) := sorry
theorem c_isZigzag : (ab_run wc (d + 1) 663 0 [(2, (200000 + k))] [] μ) = some ((0, if k = 3 ∨ k = 7 then 1 else 0), μ) := sorry
theorem c_isKey (h1 : 0 ≤ k) (h2 : k ≤ 12) : (ab_run wc (d + 1) 660 0 [(2, (200000 + k))] [] μ) = some ((0, if 1 ≤ k ∧ k ≤ 9 then 1 else 0), μ) := sorry
theorem c_cutK {v : Int} (h1 : 0 ≤ k) (h2 : k ≤ 12) : (ab_run wc (d + 1) 657 0 [(2, (200000 + k)), (1, v), (3, 0)] [] μ) = some ((1, kCut k v), μ) := sorry
theorem kFit_iff {v : Int} (h1 : 0 ≤ k) (h2 : k ≤ 12) : kFit k v ↔ kCut k v = v ∧ (0 ≤ v ∨ ¬ (k = 6 ∨ k = 8)) := sorry
theorem lcm3_lt {x y : Int} : lcm3 x y < 0 ↔ x < y := sorry
theorem lcm3_gt {x y : Int} : 0 < lcm3 x y ↔ y < x := sorry
theorem c_hasK {v : Int} (h1 : 0 ≤ k) (h2 : k ≤ 12) : ∃ r : Int, (ab_run wc (d + 2) 658 0 [(2, (200000 + k)), (1, v), (3, 0)] [] μ) = some ((0, r), μ) ∧ (r = 0 ∨ r = 1) ∧ (r = 1 ↔ kFit k v) := sorry
theorem c_lcmp {a b : Int} : (ab_run wc (d + 1) 343 0 [(1, a), (3, 0), (1, b), (3, 0)] [] μ) = some ((0, if a < b then -1 else if a = b then 0 else 1), μ) := sorry
theorem c_compareNumbers {a b : Int} (h1 : 0 ≤ k) (h2 : k ≤ 12) (ha : -9223372036854775808 ≤ a ∧ a < 9223372036854775808) (hb : -9223372036854775808 ≤ b ∧ b < 9223372036854775808) : (ab_run wc (d + 3) 656 0 [(2, (200000 + k)), (1, a), (3, 0), (1, b), (3, 0)] [] μ) = some ((0, kCmp k a b), μ) := sorry
end Kd
end
section
section Kt
variable {μ : ab_M} {d : Nat} {k : Int}
theorem tw_isNumberKind (h : 0 ≤ k) : (ab_run wt (d + 1) 93 0 [(2, 7756), (0, k)] [] μ) = some ((0, if k ≤ 8 ∨ k = 11 then 1 else 0), μ) := sorry
theorem tw_isTextKind : (ab_run wt (d + 1) 106 0 [(2, 7756), (0, k)] [] μ) = some ((0, if k = 9 ∨ k = 10 then 1 else 0), μ) := sorry
theorem tw_wireOf : (ab_run wt (d + 1) 324 0 [(2, 7756), (0, k)] [] μ) = some ((0, kWire k), μ) := sorry
theorem tw_bitsOf (h : 0 ≤ k) (h2 : k ≤ 8 ∨ k = 11) : (ab_run wt (d + 1) 12 0 [(2, 7756), (0, k)] [] μ) = some ((0, kBits k), μ) := sorry
theorem tw_sortOfKind (h : 0 ≤ k) (h2 : k ≤ 12) : (ab_run wt (d + 1) 290 0 [(2, 7756), (0, k)] [] μ) = some ((0, kSort k), μ) := sorry
theorem c_sortOf (h1 : 0 ≤ k) (h2 : k ≤ 12) : (ab_run wc (d + 1) 533 0 [(2, (200000 + k))] [] μ) = some ((0, kSort k), μ) := sorry
theorem tw_fitsKind {v : Int} (h : 0 ≤ k) (h2 : k ≤ 12) : ∃ r : Int, (ab_run wt (d + 1) 67 0 [(2, 7756), (0, k), (1, v), (3, 0)] [] μ) = some ((0, r), μ) ∧ (r = 0 ∨ r = 1) ∧ (r = 1 ↔ kFit k v) := sorry
theorem tw_extended {v : Int} (h : 0 ≤ k) (h2 : k ≤ 12) : (ab_run wt (d + 1) 52 0 [(2, 7756), (0, k), (1, v), (3, 0)] [] μ) = some ((1, kCut k v), μ) := sorry
end Kt
end
section
section Ut
variable {μ : ab_M} {d : Nat}
def isC (c : Int) : Prop := 128 ≤ c ∧ c ≤ 191
def utf : List Int → Bool
  | [] => true
  | b :: r =>
    if b < 128 then utf r
    else match r with
      | [] => false
      | c1 :: r1 =>
        if 194 ≤ b ∧ b < 224 then (if 128 ≤ c1 ∧ c1 ≤ 191 then utf r1 else false)
        else match r1 with
          | [] => false
          | c2 :: r2 =>
            if 224 ≤ b ∧ b < 240 then (if (128 ≤ c1 ∧ c1 ≤ 191) ∧ (128 ≤ c2 ∧ c2 ≤ 191) ∧ (b = 224 → 160 ≤ c1) ∧ (b = 237 → c1 ≤ 159) then utf r2 else false)
            else match r2 with
              | [] => false
              | c3 :: r3 => if 240 ≤ b ∧ b < 245 then (if (128 ≤ c1 ∧ c1 ≤ 191) ∧ (128 ≤ c2 ∧ c2 ≤ 191) ∧ (128 ≤ c3 ∧ c3 ≤ 191) ∧ (b = 240 → 144 ≤ c1) ∧ (b = 244 → c1 ≤ 143) then utf r3 else false) else false
termination_by l => l.length
theorem o32_add {x y : Int} (h : 0 ≤ x) (h2 : x < 1048576) (h3 : 0 ≤ y) (h4 : y < 64) : or32 (shl32 x 6) y = 64 * x + y := sorry
theorem sh63 : shr32 63 1 = 31 ∧ shr32 63 2 = 15 ∧ shr32 63 3 = 7 := sorry
theorem and_31 (x : Int) : and32 x 31 = x % 32 := sorry
theorem and_15 (x : Int) : and32 x 15 = x % 16 := sorry
theorem and_7 (x : Int) : and32 x 7 = x % 8 := sorry
theorem and_63 (x : Int) : and32 x 63 = x % 64 := sorry
theorem shr_6 {x : Int} (h : 0 ≤ x) (h2 : x < 256) : shr32 x 6 = x / 64 := sorry
theorem by_get {a o i : Nat} {l : List Int} {x : Int} (h : cBy μ a o l) (hx : l[i]? = some x) : 0 ≤ x ∧ x < 256 ∧ and32 (μ a (o + i)) 255 = x := sorry
theorem c_utfC {a la e : Nat} {o m i : Nat} {v c : Int} (ha : wc_ar a = (4, la)) (he : e ≤ la) (h1 : e < 100000) (hi : 1 ≤ i) (him : i ≤ m) (hm : m ≤ 3) (ho : o + i < e) (hc : 0 ≤ c ∧ c < 256 ∧ and32 (μ a (o + i)) 255 = c) (hv : 0 ≤ v) (hv2 : v < 1048576) :
    (ab_run wc (d + 1) 426 124 [(2, a), (3, 0), (3, 0), (0, o), (0, e), (3, 0), (0, m), (0, v), (0, i), (3, 0)] [] μ) = if 128 ≤ c ∧ c ≤ 191 then (ab_run wc (d + 1) 426 124 [(2, a), (3, 0), (3, 0), (0, o), (0, e), (3, 0), (0, m), (0, (64 * v + (c - 128))), (0, (((i + 1 : Nat) : Int))), (3, 0)] [] μ) else some ((0, 0), μ) := sorry
end Ut
end
section
section Ut
variable {μ : ab_M} {d : Nat}
theorem utf_1 {b : Int} {r : List Int} (h : b < 128) : utf (b :: r) = utf r := sorry
theorem utf_2 {b c : Int} {r : List Int} (h : 194 ≤ b) (h2 : b < 224) : utf (b :: c :: r) = if 128 ≤ c ∧ c ≤ 191 then utf r else false := sorry
theorem utf_3 {b c1 c2 : Int} {r : List Int} (h : 224 ≤ b) (h2 : b < 240) : utf (b :: c1 :: c2 :: r) = if (128 ≤ c1 ∧ c1 ≤ 191) ∧ (128 ≤ c2 ∧ c2 ≤ 191) ∧ (b = 224 → 160 ≤ c1) ∧ (b = 237 → c1 ≤ 159) then utf r else false := sorry
theorem utf_4 {b c1 c2 c3 : Int} {r : List Int} (h : 240 ≤ b) (h2 : b < 245) : utf (b :: c1 :: c2 :: c3 :: r) = if (128 ≤ c1 ∧ c1 ≤ 191) ∧ (128 ≤ c2 ∧ c2 ≤ 191) ∧ (128 ≤ c3 ∧ c3 ≤ 191) ∧ (b = 240 → 144 ≤ c1) ∧ (b = 244 → c1 ≤ 143) then utf r else false := sorry
theorem utf_0 {b : Int} {r : List Int} (h : 128 ≤ b) (h2 : b < 194 ∨ 245 ≤ b ∨ r.length < 1 ∨ (224 ≤ b ∧ r.length < 2) ∨ (240 ≤ b ∧ r.length < 3)) : utf (b :: r) = false := sorry
theorem c_utfL {a la e : Nat} (ha : wc_ar a = (4, la)) (he : e ≤ la) (h1 : e < 100000) : ∀ (n : Nat) (l : List Int) (o : Nat), l.length ≤ n → o + l.length = e → cBy μ a o l → (ab_run wc (d + 1) 426 7 [(2, a), (3, 0), (3, 0), (0, o), (0, e), (3, 0), (3, 0), (3, 0), (3, 0), (3, 0)] [] μ) = some ((0, if utf l then 1 else 0), μ) := sorry
theorem c_isUtf8 {a la o : Nat} {l : List Int} (ha : wc_ar a = (4, la)) (he : o + l.length ≤ la) (h1 : o + l.length < 100000) (h : cBy μ a o l) : (ab_run wc (d + 1) 426 0 [(2, a), (0, o), (0, (l.length)), (3, 0), (3, 0), (3, 0), (3, 0), (3, 0), (3, 0), (3, 0)] [] μ) = some ((0, if utf l then 1 else 0), μ) := sorry
end Ut
end
section
section Ut
variable {μ : ab_M} {d : Nat}
theorem tw_utfC {a la e : Nat} {o m i : Nat} {b c : Int} (ha : wt_ar a = (1, la)) (he : e ≤ la) (h1 : e < 1000000) (hi : 1 ≤ i) (him : i ≤ m) (hm : m ≤ 3) (ho : o + i < e) (hc : μ a (o + i) = c) :
    (ab_run wt (d + 1) 108 109 [(3, 0), (2, a), (3, 0), (0, e), (0, o), (0, b), (0, m), (0, i)] [] μ) = if 128 ≤ c ∧ c ≤ 191 then (ab_run wt (d + 1) 108 109 [(3, 0), (2, a), (3, 0), (0, e), (0, o), (0, b), (0, m), (0, (((i + 1 : Nat) : Int)))] [] μ) else some ((0, 0), μ) := sorry
theorem tw_utfE {a la e : Nat} {o m : Nat} {b c : Int} (ha : wt_ar a = (1, la)) (he : e ≤ la) (h1 : e < 1000000) (hm0 : 1 ≤ m) (hm : m ≤ 3) (ho : o + m < e) (hc : μ a (o + 1) = c) :
    (ab_run wt (d + 1) 108 109 [(3, 0), (2, a), (3, 0), (0, e), (0, o), (0, b), (0, m), (0, (((m + 1 : Nat) : Int)))] [] μ) = if (b = 224 → 160 ≤ c) ∧ (b = 237 → c ≤ 159) ∧ (b = 240 → 144 ≤ c) ∧ (b = 244 → c ≤ 143) then (ab_run wt (d + 1) 108 3 [(3, 0), (2, a), (3, 0), (0, e), (0, (((o + (m + 1) : Nat) : Int))), (3, 0), (3, 0), (3, 0)] [] μ) else some ((0, 0), μ) := sorry
theorem tw_utfL {a la e : Nat} (ha : wt_ar a = (1, la)) (he : e ≤ la) (h1 : e < 1000000) : ∀ (n : Nat) (l : List Int) (o : Nat), l.length ≤ n → o + l.length = e → tBy μ a o l → (ab_run wt (d + 1) 108 3 [(3, 0), (2, a), (3, 0), (0, e), (0, o), (3, 0), (3, 0), (3, 0)] [] μ) = some ((0, if utf l then 1 else 0), μ) := sorry
theorem tw_isUtf {a la o : Nat} {l : List Int} (ha : wt_ar a = (1, la)) (he : o + l.length ≤ la) (h1 : o + l.length < 1000000) (h : tBy μ a o l) : (ab_run wt (d + 1) 108 0 [(2, 7756), (2, a), (0, o), (0, (((o + l.length : Nat) : Int))), (3, 0), (3, 0), (3, 0), (3, 0)] [] μ) = some ((0, if utf l then 1 else 0), μ) := sorry
end Ut
end
section
section Ms
variable {μ : ab_M} {d : Nat} {A cr ci cb : Nat}
def isM (A cr ci cb : Nat) : Prop := ((A = 1255 ∨ A = 1282) ∧ cr = 2600 ∧ ci = 9000 ∧ cb = 12000) ∨ ((∃ k, k < 12 ∧ A = 6314 + 27 * k) ∧ cr = 402 ∧ ci = 402 ∧ cb = 2008)
def msO (f : Nat) : Nat := [0, 0, 0, 0, 1, 2, 3, 4, 0, 5, 6, 7, 8, 9, 10, 11, 12, 0, 13, 14, 15, 16, 17, 18, 19, 20, 0, 21, 22, 23, 24, 25, 26, 0][f]?.getD 0
def msK (f : Nat) : Nat := [0, 0, 0, 0, 1, 1, 1, 1, 0, 3, 3, 2, 1, 1, 1, 1, 1, 0, 2, 1, 1, 1, 1, 2, 1, 1, 0, 1, 1, 1, 1, 1, 4, 0][f]?.getD 0
def msN (cr ci cb f : Nat) : Nat := if f < 8 then cr else if f < 17 then 24 * cr else if f < 32 then ci else cb
def msA (A f : Nat) : Nat := A + msO f
theorem ms_ob (h : isM A cr ci cb) : wc_ob A 13 = true := sorry
theorem ms_tab (h : isM A cr ci cb) : ∀ f, f < 33 → msO f ≠ 0 → wh_st A f = ((msA A f : Nat) : Int) ∧ wc_ar (msA A f) = (msK f, msN cr ci cb f) := sorry
theorem msA_ne {f g : Nat} (h : msO f ≠ msO g) : msA A f ≠ msA A g := sorry
theorem msA_nA {f : Nat} (h : msO f ≠ 0) : msA A f ≠ A := sorry
theorem ms_all (h : isM A cr ci cb) : (wc_ob A 13 = true) ∧ (wh_st A 4 = ((msA A 4 : Nat) : Int) ∧ wc_ar (msA A 4) = (1, cr)) ∧ (wh_st A 5 = ((msA A 5 : Nat) : Int) ∧ wc_ar (msA A 5) = (1, cr)) ∧ (wh_st A 6 = ((msA A 6 : Nat) : Int) ∧ wc_ar (msA A 6) = (1, cr)) ∧ (wh_st A 7 = ((msA A 7 : Nat) : Int) ∧ wc_ar (msA A 7) = (1, cr)) ∧
    (wh_st A 9 = ((msA A 9 : Nat) : Int) ∧ wc_ar (msA A 9) = (3, 24 * cr)) ∧ (wh_st A 10 = ((msA A 10 : Nat) : Int) ∧ wc_ar (msA A 10) = (3, 24 * cr)) ∧ (wh_st A 11 = ((msA A 11 : Nat) : Int) ∧ wc_ar (msA A 11) = (2, 24 * cr)) ∧ (wh_st A 12 = ((msA A 12 : Nat) : Int) ∧ wc_ar (msA A 12) = (1, 24 * cr)) ∧ (wh_st A 13 = ((msA A 13 : Nat) : Int) ∧ wc_ar (msA A 13) = (1, 24 * cr)) ∧ (wh_st A 14 = ((msA A 14 : Nat) : Int) ∧ wc_ar (msA A 14) = (1, 24 * cr)) ∧ (wh_st A 15 = ((msA A 15 : Nat) : Int) ∧ wc_ar (msA A 15) = (1, 24 * cr)) ∧ (wh_st A 16 = ((msA A 16 : Nat) : Int) ∧ wc_ar (msA A 16) = (1, 24 * cr)) ∧
    (wh_st A 18 = ((msA A 18 : Nat) : Int) ∧ wc_ar (msA A 18) = (2, ci)) ∧ (wh_st A 19 = ((msA A 19 : Nat) : Int) ∧ wc_ar (msA A 19) = (1, ci)) ∧ (wh_st A 20 = ((msA A 20 : Nat) : Int) ∧ wc_ar (msA A 20) = (1, ci)) ∧ (wh_st A 21 = ((msA A 21 : Nat) : Int) ∧ wc_ar (msA A 21) = (1, ci)) ∧ (wh_st A 22 = ((msA A 22 : Nat) : Int) ∧ wc_ar (msA A 22) = (1, ci)) ∧ (wh_st A 23 = ((msA A 23 : Nat) : Int) ∧ wc_ar (msA A 23) = (2, ci)) ∧ (wh_st A 24 = ((msA A 24 : Nat) : Int) ∧ wc_ar (msA A 24) = (1, ci)) ∧ (wh_st A 25 = ((msA A 25 : Nat) : Int) ∧ wc_ar (msA A 25) = (1, ci)) ∧
    (wh_st A 27 = ((msA A 27 : Nat) : Int) ∧ wc_ar (msA A 27) = (1, ci)) ∧ (wh_st A 28 = ((msA A 28 : Nat) : Int) ∧ wc_ar (msA A 28) = (1, ci)) ∧ (wh_st A 29 = ((msA A 29 : Nat) : Int) ∧ wc_ar (msA A 29) = (1, ci)) ∧ (wh_st A 30 = ((msA A 30 : Nat) : Int) ∧ wc_ar (msA A 30) = (1, ci)) ∧ (wh_st A 31 = ((msA A 31 : Nat) : Int) ∧ wc_ar (msA A 31) = (1, ci)) ∧ wh_st A 32 = ((msA A 32 : Nat) : Int) ∧ wc_ar (msA A 32) = (4, cb) := sorry
theorem ms_cap (h : isM A cr ci cb) : cr ≤ 2600 ∧ ci ≤ 9000 ∧ cb ≤ 12000 := sorry
end Ms
end
section
section Ms
variable {μ : ab_M} {d : Nat} {A cr ci cb : Nat}
theorem c_clearM {s : Int} (h : isM A cr ci cb) : (ab_run wc (d + 1) 612 0 [(2, A), (0, s)] [] μ) = some ((3, 0), ab_up (ab_up (ab_up (ab_up (ab_up (ab_up μ A 1 s) A 3 0) A 8 0) A 17 0) A 26 0) A 33 0) := sorry
theorem c_emptyM {s : Nat} (h : isM A cr ci cb) (hs : s < 24 * cr) : (ab_run wc (d + 1) 613 0 [(2, A), (0, s)] [] μ) = some ((3, 0), ab_up (ab_up (ab_up μ (msA A 9) s 0) (msA A 14) s (-1)) (msA A 16) s 0) := sorry
theorem c_newItemM {i : Nat} (h : isM A cr ci cb) (hi : μ A 17 = i) (hs : i < ci) : (ab_run wc (d + 1) 616 0 [(2, A)] [] μ) = some ((0, (i : Int)), ab_up (ab_up (ab_up μ (msA A 22) i (-1)) (msA A 21) i (-1)) A 17 ((i + 1 : Nat) : Int)) := sorry
theorem c_appendM {s i l n : Nat} (h : isM A cr ci cb) (hs : s < 24 * cr) (hn : μ (msA A 16) s = n) (hn2 : n < 100000) (hl : n ≠ 0 → μ (msA A 15) s = l ∧ l < ci) :
    (ab_run wc (d + 1) 611 0 [(2, A), (0, s), (0, i)] [] μ) = some ((3, 0), ab_up (ab_up (if n = 0 then ab_up μ (msA A 14) s i else ab_up μ (msA A 22) l i) (msA A 15) s i) (msA A 16) s ((n + 1 : Nat) : Int)) := sorry
theorem c_keepM {a o la u : Nat} {l : List Int} (h : isM A cr ci cb) (ha : wc_ar a = (4, la)) (hl : o + l.length ≤ la) (hb : cBy μ a o l) (hu : μ A 33 = u) (hu2 : u + l.length ≤ cb) :
    (ab_run wc (d + 1) 615 0 [(2, A), (2, a), (0, o), (0, (l.length))] [] μ) = some ((0, (u : Int)), ab_up (ab_cp μ a o (msA A 32) u l.length) A 33 ((u + l.length : Nat) : Int)) := sorry
def nsM (μ : ab_M) (A s : Nat) : Nat → ab_M
  | 0 => μ
  | n + 1 => nsM (ab_up (ab_up (ab_up (ab_up (ab_up μ (msA A 9) s 0) (msA A 10) s 0) (msA A 14) s (-1)) (msA A 16) s 0) A 8 ((s + 1 : Nat) : Int)) A (s + 1) n
theorem nsM_o {b i : Nat} (h1 : b ≠ A ∨ i ≠ 8) (h2 : b ≠ msA A 9 ∧ b ≠ msA A 10 ∧ b ≠ msA A 14 ∧ b ≠ msA A 16) : ∀ (n s : Nat) (μ : ab_M), nsM μ A s n b i = μ b i := sorry
theorem nsM_8 : ∀ (n s : Nat) (μ : ab_M), μ A 8 = s → nsM μ A s n A 8 = ((s + n : Nat) : Int) := sorry
theorem nsM_lo {b i : Nat} (hb : b ≠ A) : ∀ (n s : Nat) (μ : ab_M), (i < s ∨ s + n ≤ i) → nsM μ A s n b i = μ b i := sorry
theorem nsM_in {i : Nat} : ∀ (n s : Nat) (μ : ab_M), s ≤ i → i < s + n → nsM μ A s n (msA A 9) i = 0 ∧ nsM μ A s n (msA A 10) i = 0 ∧ nsM μ A s n (msA A 14) i = -1 ∧ nsM μ A s n (msA A 16) i = 0 := sorry
theorem c_newRecordL {r : Nat} (h : isM A cr ci cb) : ∀ (n k s c : Nat) (μ : ab_M), k + n = c → c ≤ 24 → μ A 8 = s → s + n ≤ 24 * cr → (ab_run wc (d + 1) 617 39 [(2, A), (3, 0), (0, c), (0, r), (0, k)] [] μ) = some ((0, (r : Int)), nsM μ A s n) := sorry
theorem c_newRecordM {r s c : Nat} {t : Int} (h : isM A cr ci cb) (hr : μ A 3 = r) (hr2 : r < cr) (hc : c ≤ 24) (h8 : μ A 8 = s) (hs : s + c ≤ 24 * cr) :
    (ab_run wc (d + 1) 617 0 [(2, A), (0, t), (0, c), (3, 0), (3, 0)] [] μ) = some ((0, (r : Int)), nsM (ab_up (ab_up (ab_up (ab_up μ A 3 ((r + 1 : Nat) : Int)) (msA A 4) r t) (msA A 5) r s) (msA A 6) r (-1)) A s c) := sorry
end Ms
end
section
section Hp
variable {μ μ' : ab_M} {d : Nat} {A cr ci cb : Nat}
abbrev It := Int × List Int × Int × List Int × Nat
def cMt (μ : ab_M) (A used a b s : Nat) (l : List Int) : Prop := ∃ f : Nat, μ (msA A a) s = f ∧ μ (msA A b) s = l.length ∧ f + l.length ≤ used ∧ cBy μ (msA A 32) f l
def hole : Nat := 1000000
def cIt (μ : ab_M) (A used so ks i : Nat) (t : It) : Prop := (t.2.2.2.2 ≠ hole → (so = 0 → μ (msA A 18) i = t.2.2.1) ∧ (so = 1 → cMt μ A used 19 20 i t.2.2.2.1) ∧ (so = 2 → μ (msA A 21) i = t.2.2.2.2)) ∧ (ks = 1 → μ (msA A 23) i = t.1) ∧ (ks = 2 → cMt μ A used 24 25 i t.2.1)
def cHv (μ : ab_M) (A used so s : Nat) (t : It) : Prop := (so = 0 → μ (msA A 11) s = t.2.2.1) ∧ (so = 1 → cMt μ A used 12 13 s t.2.2.2.1) ∧ (so = 2 → t.2.2.2.2 ≠ hole → μ (msA A 14) s = t.2.2.2.2)
def nx (ch : List Nat) (k : Nat) : Int := match ch[k]? with
  | some i => i
  | none => -1
def cMy (μ : ab_M) (A used ni so ks s : Nat) (l : List It) (ch : List Nat) : Prop := μ (msA A 16) s = l.length ∧ ch.length = l.length ∧ ch.Nodup ∧ (∀ i ∈ ch, i < ni) ∧ (∀ (k i : Nat) (t : It), ch[k]? = some i → l[k]? = some t → cIt μ A used so ks i t) ∧
  (∀ (k i : Nat), ch[k]? = some i → μ (msA A 22) i = nx ch (k + 1)) ∧ (ch ≠ [] → μ (msA A 14) s = nx ch 0 ∧ μ (msA A 15) s = nx ch (ch.length - 1))
def cOn (μ : ab_M) (A used so s : Nat) (l : List It) (ch : List Nat) : Prop := ch = [] ∧ ((l = [] ∧ μ (msA A 9) s = 0) ∨ ∃ t, l = [t] ∧ μ (msA A 9) s = 1 ∧ cHv μ A used so s t)
def cSl (μ : ab_M) (A used ni so ks : Nat) (many : Bool) (s : Nat) (l : List It) (ch : List Nat) : Prop := if many then cMy μ A used ni so ks s l ch else cOn μ A used so s l ch
theorem cMt.to {a b s used used' : Nat} {l : List Int} (h : cMt μ A used a b s l) (h1 : μ' (msA A a) s = μ (msA A a) s) (h2 : μ' (msA A b) s = μ (msA A b) s) (h3 : ∀ i, i < used → μ' (msA A 32) i = μ (msA A 32) i) (hu : used ≤ used') : cMt μ' A used' a b s l := sorry
def itF (f : Nat) : Prop := f = 18 ∨ f = 19 ∨ f = 20 ∨ f = 21 ∨ f = 22 ∨ f = 23 ∨ f = 24 ∨ f = 25
def slF (f : Nat) : Prop := f = 9 ∨ f = 11 ∨ f = 12 ∨ f = 13 ∨ f = 14 ∨ f = 15 ∨ f = 16
theorem cIt.to {so ks i used used' : Nat} {t : It} (h : cIt μ A used so ks i t) (h1 : ∀ f, itF f → μ' (msA A f) i = μ (msA A f) i) (h3 : ∀ i, i < used → μ' (msA A 32) i = μ (msA A 32) i) (hu : used ≤ used') : cIt μ' A used' so ks i t := sorry
theorem cSl.to {so ks s used used' ni ni' : Nat} {m : Bool} {l : List It} {ch : List Nat} (h : cSl μ A used ni so ks m s l ch) (h0 : ∀ f, slF f → μ' (msA A f) s = μ (msA A f) s) (h1 : ∀ i, i ∈ ch → ∀ f, itF f → μ' (msA A f) i = μ (msA A f) i) (h3 : ∀ i, i < used → μ' (msA A 32) i = μ (msA A 32) i) (hu : used ≤ used') (hn : ni ≤ ni') : cSl μ' A used' ni' so ks m s l ch := sorry
end Hp
end
section
section Hp
variable {μ μ' : ab_M} {d : Nat} {A cr ci cb : Nat}
abbrev Un := Int × Int × List Int
def fSo (k : Int) : Nat := if k = 9 ∨ k = 10 then 1 else if k = 12 then 2 else 0
def fKs (m k : Int) : Nat := if m = 3 then (if k = 9 then 2 else 1) else 0
def fMy (m : Int) : Bool := decide (2 ≤ m)
def fCt (S : SF) (t : Nat) : Nat := (S 3 t 0).toNat
def cUn (μ : ab_M) (A used nu r : Nat) (l : List Un) (ch : List Nat) : Prop := ch.length = l.length ∧ ch.Nodup ∧ (∀ i ∈ ch, i < nu) ∧ (∀ (k i : Nat) (t : Un), ch[k]? = some i → l[k]? = some t → μ (msA A 27) i = t.1 ∧ μ (msA A 28) i = t.2.1 ∧ cMt μ A used 29 30 i t.2.2) ∧
  (∀ (k i : Nat), ch[k]? = some i → μ (msA A 31) i = nx ch (k + 1)) ∧ μ (msA A 6) r = nx ch 0 ∧ (ch ≠ [] → μ (msA A 7) r = nx ch (ch.length - 1))
def cHs (S : SF) (μ : ab_M) (A us ni t j s : Nat) (l : List It) (ch : List Nat) : Prop := cSl μ A us ni (fSo (S 12 t j)) (fKs (S 11 t j) (S 14 t j)) (fMy (S 11 t j)) s l ch
def cHc (μ : ab_M) (A cr ci cb n ns ni nu us : Nat) : Prop := (μ A 3 = n ∧ n ≤ cr) ∧ (μ A 8 = ns ∧ ns ≤ 24 * cr) ∧ (μ A 17 = ni ∧ ni ≤ ci) ∧ (μ A 26 = nu ∧ nu ≤ ci) ∧ μ A 33 = us ∧ us ≤ cb
def cH (S : SF) (μ : ab_M) (A cr ci cb n : Nat) (ty : Nat → Nat) (V : Nat → Nat → List It) (U : Nat → List Un) (base : Nat → Nat) (ch : Nat → Nat → List Nat) (own : Nat → Nat) (uch : Nat → List Nat) (uown : Nat → Nat) (ni nu us : Nat) : Prop :=
  cHc μ A cr ci cb n (base n) ni nu us ∧ base 0 = 0 ∧ (∀ r, r < n → base (r + 1) = base r + fCt S (ty r)) ∧ (∀ r, r < n → (ty r : Int) < S 0 0 0 ∧ S 2 (ty r) 0 = 1) ∧ (∀ r, r < n → μ (msA A 4) r = ty r ∧ μ (msA A 5) r = base r) ∧
  (∀ r j, r < n → j < fCt S (ty r) → cHs S μ A us ni (ty r) j (base r + j) (V r j) (ch r j)) ∧ (∀ r j, r < n → j < fCt S (ty r) → ∀ i ∈ ch r j, own i = base r + j) ∧ (∀ r, r < n → cUn μ A us nu r (U r) (uch r)) ∧ ∀ r, r < n → ∀ i ∈ uch r, uown i = r
theorem base_mono {S : SF} {n : Nat} {ty base : Nat → Nat} (h : ∀ r, r < n → base (r + 1) = base r + fCt S (ty r)) : ∀ (r r' : Nat), r < r' → r' ≤ n → base r + fCt S (ty r) ≤ base r' := sorry
theorem base_inj {S : SF} {n : Nat} {ty base : Nat → Nat} (h : ∀ r, r < n → base (r + 1) = base r + fCt S (ty r)) {r r' j j' : Nat} (h1 : r < n) (h2 : r' < n) (h3 : j < fCt S (ty r)) (h4 : j' < fCt S (ty r')) (e : base r + j = base r' + j') : r = r' ∧ j = j' := sorry
theorem base_le {S : SF} {n : Nat} {ty base : Nat → Nat} (h : ∀ r, r < n → base (r + 1) = base r + fCt S (ty r)) {r j : Nat} (h1 : r < n) (h3 : j < fCt S (ty r)) : base r + j < base n := sorry
theorem cUn.to {used used' nu nu' r : Nat} {l : List Un} {ch : List Nat} (h : cUn μ A used nu r l ch) (h0 : μ' (msA A 6) r = μ (msA A 6) r ∧ μ' (msA A 7) r = μ (msA A 7) r) (h1 : ∀ i, i ∈ ch → ∀ f, 27 ≤ f → f ≤ 31 → μ' (msA A f) i = μ (msA A f) i) (h3 : ∀ i, i < used → μ' (msA A 32) i = μ (msA A 32) i) (hu : used ≤ used') (hn : nu ≤ nu') : cUn μ' A used' nu' r l ch := sorry
def upV (V : Nat → Nat → List It) (r j : Nat) (l : List It) : Nat → Nat → List It := fun a b => if a = r ∧ b = j then l else V a b
def upC (V : Nat → Nat → List Nat) (r j : Nat) (l : List Nat) : Nat → Nat → List Nat := fun a b => if a = r ∧ b = j then l else V a b
theorem cH.slot {S : SF} {n : Nat} {ty : Nat → Nat} {V : Nat → Nat → List It} {U : Nat → List Un} {base : Nat → Nat} {ch : Nat → Nat → List Nat} {own : Nat → Nat} {uch : Nat → List Nat} {uown : Nat → Nat} {ni nu us : Nat} {ni' us' r j : Nat} {l : List It} {c : List Nat}
    (h : cH S μ A cr ci cb n ty V U base ch own uch uown ni nu us) (hr : r < n) (hj : j < fCt S (ty r)) (hc : cHc μ' A cr ci cb n (base n) ni' nu us') (hi : ni ≤ ni') (hu : us ≤ us')
    (hs : cHs S μ' A us' ni' (ty r) j (base r + j) l c) (hn : ∀ i ∈ c, i ∈ ch r j ∨ ni ≤ i)
    (f1 : ∀ f, 4 ≤ f → f < 8 → ∀ i, μ' (msA A f) i = μ (msA A f) i) (f2 : ∀ f, slF f → ∀ i, i ≠ base r + j → i < base n → μ' (msA A f) i = μ (msA A f) i) (f3 : ∀ f, itF f → ∀ i, i < ni → i ∉ ch r j → μ' (msA A f) i = μ (msA A f) i)
    (f4 : ∀ i, i < us → μ' (msA A 32) i = μ (msA A 32) i) (f5 : ∀ f, 27 ≤ f → f ≤ 31 → ∀ i, μ' (msA A f) i = μ (msA A f) i) :
    cH S μ' A cr ci cb n ty (upV V r j l) U base (upC ch r j c) (fun i => if i < ni then own i else base r + j) uch uown ni' nu us' := sorry
end Hp
end
section
section Hp
variable {μ μ' : ab_M} {d : Nat} {A cr ci cb : Nat}
def upT (ty : Nat → Nat) (n t : Nat) : Nat → Nat := fun r => if r = n then t else ty r
def upB (base : Nat → Nat) (n s : Nat) : Nat → Nat := fun r => if r ≤ n then base r else s
def nwV (V : Nat → Nat → List It) (n : Nat) : Nat → Nat → List It := fun r j => if r = n then [] else V r j
def nwC (V : Nat → Nat → List Nat) (n : Nat) : Nat → Nat → List Nat := fun r j => if r = n then [] else V r j
def nwU (U : Nat → List Un) (n : Nat) : Nat → List Un := fun r => if r = n then [] else U r
def nwX (U : Nat → List Nat) (n : Nat) : Nat → List Nat := fun r => if r = n then [] else U r
theorem cH.fresh {S : SF} {n : Nat} {ty : Nat → Nat} {V : Nat → Nat → List It} {U : Nat → List Un} {base : Nat → Nat} {ch : Nat → Nat → List Nat} {own : Nat → Nat} {uch : Nat → List Nat} {uown : Nat → Nat} {ni nu us : Nat} {t : Nat}
    (h : cH S μ A cr ci cb n ty V U base ch own uch uown ni nu us) (hn : n < cr) (ht : (t : Int) < S 0 0 0 ∧ S 2 t 0 = 1) (hc : base n + fCt S t ≤ 24 * cr) :
    cH S (nsM (ab_up (ab_up (ab_up (ab_up μ A 3 ((n + 1 : Nat) : Int)) (msA A 4) n t) (msA A 5) n (base n)) (msA A 6) n (-1)) A (base n) (fCt S t)) A cr ci cb (n + 1) (upT ty n t) (nwV V n) (nwU U n) (upB base n (base n + fCt S t)) (nwC ch n) own (nwX uch n) uown ni nu us := sorry
end Hp
end
section
section Hp
variable {μ μ' : ab_M} {d : Nat} {A cr ci cb b k : Nat} {S : SF} {N : NF}
theorem cSc.to (h : cSc μ b S N) (ok : scOK S N) (e : ∀ a, b ≤ a → a < b + 1240 → ∀ i, μ' a i = μ a i) : cSc μ' b S N := sorry
def cMS (μ : ab_M) (A k b : Nat) (S : SF) (N : NF) : Prop := μ A 1 = k ∧ k < 4 ∧ μ 10 k = b ∧ isS b ∧ scOK S N ∧ cSc μ b S N
def inM (A a : Nat) : Prop := A ≤ a ∧ a < A + 27
theorem cMS.to (h : cMS μ A k b S N) (hm : isM A cr ci cb) (e1 : μ' A 1 = μ A 1) (e : ∀ a, ¬ inM A a → ∀ i, μ' a i = μ a i) : cMS μ' A k b S N := sorry
theorem c_schemaOf (h : cMS μ A k b S N) (hm : isM A cr ci cb) : (ab_run wc (d + 1) 504 0 [(2, 1), (2, A)] [] μ) = some ((2, (b : Int)), μ) := sorry
theorem c_typeOf {r t : Nat} (h : cMS μ A k b S N) (hm : isM A cr ci cb) (hr : r < cr) (ht : μ (msA A 4) r = t) (ht2 : t < 30) : (ab_run wc (d + 1) 559 0 [(2, 1), (2, A), (0, r)] [] μ) = some ((2, ((tyA b t : Nat) : Int)), μ) := sorry
end Hp
end
section
section Hp
variable {μ μ' μ'' : ab_M} {d : Nat} {A cr ci cb b k : Nat} {S : SF} {N : NF} {n : Nat} {ty : Nat → Nat} {V : Nat → Nat → List It} {U : Nat → List Un} {ni nu us : Nat}
abbrev Rsv := Nat → Option (Nat × Nat × It)
def rsv (X : Rsv) (S : SF) (μ : ab_M) (A us ni n : Nat) (ty : Nat → Nat) (ch : Nat → Nat → List Nat) : Prop := ∀ (i : Nat) (q : Nat × Nat × It), X i = some q → i < ni ∧ (cIt μ A us q.1 q.2.1 i q.2.2 ∧ μ (msA A 22) i = -1) ∧ ∀ r j, r < n → j < fCt S (ty r) → i ∉ ch r j
theorem rsv.slot {X : Rsv} {ch : Nat → Nat → List Nat} {c : List Nat} {r j ni' us' : Nat} (h : rsv X S μ A us ni n ty ch) (hn : ∀ i ∈ c, i ∈ ch r j ∨ ni ≤ i) (hr : r < n) (hj : j < fCt S (ty r)) (hi : ni ≤ ni') (hu : us ≤ us') (f3 : ∀ f, itF f → ∀ i, i < ni → i ∉ ch r j → μ' (msA A f) i = μ (msA A f) i) (f4 : ∀ i, i < us → μ' (msA A 32) i = μ (msA A 32) i) : rsv X S μ' A us' ni' n ty (upC ch r j c) := sorry
def CM (X : Rsv) (S : SF) (μ : ab_M) (A cr ci cb n : Nat) (ty : Nat → Nat) (V : Nat → Nat → List It) (U : Nat → List Un) (ni nu us : Nat) : Prop := ∃ base ch own uch uown, cH S μ A cr ci cb n ty V U base ch own uch uown ni nu us ∧ rsv X S μ A us ni n ty ch
def frM (A : Nat) (μ μ' : ab_M) : Prop := (∀ a, ¬ inM A a → ∀ i, μ' a i = μ a i) ∧ (∀ i, i < 3 → μ' A i = μ A i) ∧ μ A 8 ≤ μ' A 8 ∧ ∀ i : Nat, (i : Int) < μ A 8 → μ' (msA A 10) i = μ (msA A 10) i
theorem frM.refl : frM A μ μ := sorry
theorem frM.trans (h : frM A μ μ') (h' : frM A μ' μ'') : frM A μ μ'' := sorry
theorem msO_lt (f : Nat) : msO f < 27 := sorry
theorem inM_A : inM A A := sorry
theorem inM_f {f : Nat} : inM A (msA A f) := sorry
theorem nm_ne {a f : Nat} (h : ¬ inM A a) : a ≠ msA A f := sorry
theorem nm_nA {a : Nat} (h : ¬ inM A a) : a ≠ A := sorry
theorem cMS.fr (h : cMS μ A k b S N) (hm : isM A cr ci cb) (f : frM A μ μ') : cMS μ' A k b S N := sorry
theorem CM.empty {X : Rsv} {r j : Nat} (h : CM X S μ A cr ci cb n ty V U ni nu us) (hm : isM A cr ci cb) (hr : r < n) (hj : j < fCt S (ty r)) (h1 : S 11 (ty r) j < 2) :
    ∃ s : Nat, s < 24 * cr ∧ μ (msA A 5) r + j = s ∧ CM X S (ab_up (ab_up (ab_up μ (msA A 9) s 0) (msA A 14) s (-1)) (msA A 16) s 0) A cr ci cb n ty (upV V r j []) U ni nu us ∧ frM A μ (ab_up (ab_up (ab_up μ (msA A 9) s 0) (msA A 14) s (-1)) (msA A 16) s 0) := sorry
end Hp
end
section
section Hp
variable {μ μ' μ'' : ab_M} {d : Nat} {A cr ci cb b k : Nat} {S : SF} {N : NF} {n : Nat} {ty : Nat → Nat} {V : Nat → Nat → List It} {U : Nat → List Un} {ni nu us : Nat} {X : Rsv}
def lvV (S : SF) (t r j : Nat) (V : Nat → Nat → List It) : Nat → Nat → Nat → Nat → List It
  | 0, _ => V
  | m + 1, i => lvV S t r j (if i ≠ j ∧ S 15 t i = S 15 t j then upV V r i [] else V) m (i + 1)
def lvO (S : SF) (t r j : Nat) (V : Nat → Nat → List It) : Nat → Nat → List It := if S 15 t j < 0 then V else lvV S t r j V (fCt S t) 0
theorem lvV_eq {t r j : Nat} : ∀ (m i : Nat) (V : Nat → Nat → List It) (a c : Nat), lvV S t r j V m i a c = if a = r ∧ i ≤ c ∧ c < i + m ∧ c ≠ j ∧ S 15 t c = S 15 t j then [] else V a c := sorry
theorem ms_fd {t j : Nat} (h : cMS μ A k b S N) (ht : (t : Int) < S 0 0 0 ∧ S 2 t 0 = 1) (hj : j < fCt S t) : t < 30 ∧ j < 24 ∧ fCt S t ≤ 24 ∧ (fCt S t : Int) = S 3 t 0 ∧ fdOK S N t j ∧ cFd μ b S N t j ∧ μ (tyA b t) 5 = S 3 t 0 := sorry
theorem CM.tyr {r : Nat} (h : CM X S μ A cr ci cb n ty V U ni nu us) (hr : r < n) : ((ty r : Int) < S 0 0 0 ∧ S 2 (ty r) 0 = 1) ∧ μ (msA A 4) r = ty r ∧ n ≤ cr := sorry
theorem c_leaveL {r j : Nat} (hm : isM A cr ci cb) (hr : r < n) (hj : j < fCt S (ty r)) (h15 : 0 ≤ S 15 (ty r) j) : ∀ (m i : Nat) (μ : ab_M) (V : Nat → Nat → List It), i + m = fCt S (ty r) → cMS μ A k b S N → CM X S μ A cr ci cb n ty V U ni nu us →
    R3 (ab_run wc (d + 2) 431 23 [(3, 0), (2, A), (0, r), (0, j), (2, (tyA b (ty r))), (0, (S 15 (ty r) j)), (0, i)] [] μ) (fun μ' => CM X S μ' A cr ci cb n ty (lvV S (ty r) r j V m i) U ni nu us ∧ frM A μ μ') := sorry
theorem c_leaveOne {r j : Nat} (hm : isM A cr ci cb) (hr : r < n) (hj : j < fCt S (ty r)) (hs : cMS μ A k b S N) (hc : CM X S μ A cr ci cb n ty V U ni nu us) :
    R3 (ab_run wc (d + 2) 431 0 [(2, 1), (2, A), (0, r), (0, j), (3, 0), (3, 0), (3, 0)] [] μ) (fun μ' => CM X S μ' A cr ci cb n ty (lvO S (ty r) r j V) U ni nu us ∧ frM A μ μ') := sorry
end Hp
end
section
section Hp
variable {μ μ' μ'' : ab_M} {d : Nat} {A cr ci cb b k : Nat} {S : SF} {N : NF} {n : Nat} {ty : Nat → Nat} {V : Nat → Nat → List It} {U : Nat → List Un} {ni nu us : Nat} {X : Rsv}
theorem CM.one {r j : Nat} (h : CM X S μ A cr ci cb n ty V U ni nu us) (hr : r < n) (hj : j < fCt S (ty r)) (h1 : S 11 (ty r) j < 2) :
    ∃ s : Nat, s < 24 * cr ∧ (s : Int) < μ A 8 ∧ μ (msA A 5) r + j = s ∧ cOn μ A us (fSo (S 12 (ty r) j)) s (V r j) [] ∧ ∀ (μ' : ab_M) (us' : Nat) (l : List It), us ≤ us' → us' ≤ cb → (∀ i, i ≠ 33 → μ' A i = μ A i) → μ' A 33 = us' → cOn μ' A us' (fSo (S 12 (ty r) j)) s l [] →
      (∀ f i, msO f ≠ 0 → (slF f → i ≠ s) → (f = 32 → i < us) → μ' (msA A f) i = μ (msA A f) i) → CM X S μ' A cr ci cb n ty (upV V r j l) U ni nu us' := sorry
abbrev isPl (S : SF) (t j : Nat) : Prop := S 11 t j = 0 ∧ S 15 t j < 0 ∧ S 12 t j ≠ 12
theorem c_isPlain {t j : Nat} (hs : cMS μ A k b S N) (ht : (t : Int) < S 0 0 0 ∧ S 2 t 0 = 1) (hj : j < fCt S t) : (ab_run wc (d + 1) 697 0 [(2, (fdA b t j))] [] μ) = some ((0, if isPl S t j then 1 else 0), μ) := sorry
end Hp
end
section
section Hp
variable {μ μ' μ'' : ab_M} {d : Nat} {A cr ci cb b k : Nat} {S : SF} {N : NF} {n : Nat} {ty : Nat → Nat} {V : Nat → Nat → List It} {U : Nat → List Un} {ni nu us : Nat} {X : Rsv}
theorem msO_inj (g : Nat) (hg : msO g ≠ 0) : ∀ f, msO f = msO g → f = g := sorry
def itN (v : Int) : It := (0, [], v, [], 0)
def bsF (S : SF) (ty : Nat → Nat) : Nat → Nat
  | 0 => 0
  | r + 1 => bsF S ty r + fCt S (ty r)
theorem CM.b5 {r : Nat} (h : CM X S μ A cr ci cb n ty V U ni nu us) (hr : r < n) : μ (msA A 5) r = (bsF S ty r : Int) := sorry
theorem c_setNumber {r j : Nat} {v : Int} (hm : isM A cr ci cb) (hr : r < n) (hj : j < fCt S (ty r)) (h1 : S 11 (ty r) j < 2) (h0 : fSo (S 12 (ty r) j) = 0) (hs : cMS μ A k b S N) (hc : CM X S μ A cr ci cb n ty V U ni nu us) :
    R3 (ab_run wc (d + 3) 512 0 [(2, 1), (2, A), (0, r), (0, j), (1, v), (3, 0), (3, 0), (3, 0)] [] μ) (fun μ' => CM X S μ' A cr ci cb n ty (upV (lvO S (ty r) r j V) r j (if isPl S (ty r) j ∧ v = S 19 (ty r) j then [] else [itN v])) U ni nu us ∧ frM A μ μ') := sorry
end Hp
end
