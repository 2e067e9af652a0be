/-! what is told of a picture rests on the cells of the board alone -/
set_option maxRecDepth 100000
section CG
variable {w g : Nat} {P Q : Nat → Bool}
theorem isK_cg (h : ∀ j, j < w * g → P j = Q j) (x y : Int) : isK w g P x y = isK w g Q x y := by
  unfold isK
  cases hb : isBd w g x y with
  | false => rfl
  | true => rw [h _ (cel_int ((isBd_t _ _ _ _).mp hb)).2]
theorem bes_cg (h : ∀ j, j < w * g → P j = Q j) (c : Nat) (k : Int) : bes w g P c k = bes w g Q c k := isK_cg h _ _
theorem arnd_cg (h : ∀ j, j < w * g → P j = Q j) (c : Nat) : arnd w g P c = arnd w g Q c := fb_ct_cong (fun k _ => bes_cg h c _)
theorem chgs_cg (h : ∀ j, j < w * g → P j = Q j) (c : Nat) : chgs w g P c = chgs w g Q c := fb_ct_cong (fun k _ => by rw [bes_cg h c _, bes_cg h c _])
theorem thn_cg (h : ∀ j, j < w * g → P j = Q j) (b : Bool) {c : Nat} (hc : c < w * g) : thn w g b P c = thn w g b Q c := by
  unfold thn
  rw [h c hc, arnd_cg h c, chgs_cg h c]
  simp only [bes_cg h c]
theorem hlf_cg (h : ∀ j, j < w * g → P j = Q j) (b : Bool) : ∀ j, j < w * g → hlf w g b P j = hlf w g b Q j := fun j hj => by
  unfold hlf hlfI
  rw [h j hj, thn_cg h b hj]
theorem thP_cg (h : ∀ j, j < w * g → P j = Q j) : ∀ j, j < w * g → thP w g P j = thP w g Q j := hlf_cg (hlf_cg h true) false
theorem thN_cg (h : ∀ j, j < w * g → P j = Q j) : thN w g P = thN w g Q := by
  unfold thN
  rw [fb_ct_cong (fun k hk => thn_cg h true hk), fb_ct_cong (fun k hk => thn_cg (hlf_cg h true) false hk)]
theorem thK_cg : ∀ (f : Nat) {P Q : Nat → Bool}, (∀ j, j < w * g → P j = Q j) → (thK w g f P).1 = (thK w g f Q).1 ∧ ∀ j, j < w * g → (thK w g f P).2 j = (thK w g f Q).2 j
  | 0, _, _, h => ⟨rfl, thP_cg h⟩
  | f + 1, P, Q, h => by
    have h1 := thK_cg f (thP_cg h)
    rw [thK, thK, thN_cg h]
    split
    · exact ⟨rfl, thP_cg h⟩
    · exact ⟨by rw [h1.1], h1.2⟩
theorem thR_cg (h : ∀ j, j < w * g → P j = Q j) : (thR w g P).1 = (thR w g Q).1 ∧ ∀ j, j < w * g → (thR w g P).2 j = (thR w g Q).2 j := by
  unfold thR
  rw [fb_ct_cong h]
  exact thK_cg _ h
theorem egC_cg (h : ∀ j, j < w * g → P j = Q j) {c : Nat} (hc : c < w * g) : ∀ n, egC w g P c n = egC w g Q c n
  | 0 => rfl
  | n + 1 => by rw [egC, egC, egC_cg h hc n, h c hc, bes_cg h c]
theorem egA_cg (h : ∀ j, j < w * g → P j = Q j) : ∀ n, n ≤ w * g → egA w g P n = egA w g Q n
  | 0, _ => rfl
  | n + 1, hn => by rw [egA, egA, egA_cg h n (by omega), egC_cg h (by omega)]
theorem lkR_cg (h : ∀ j, j < w * g → P j = Q j) (x0 y0 : Int) (ch : Bool) (y m : Int) : ∀ n, lkR w g P x0 y0 ch y n m = lkR w g Q x0 y0 ch y n m
  | 0 => rfl
  | n + 1 => by rw [lkR, lkR, lkR_cg h x0 y0 ch y m n, isK_cg h]
theorem lkA_cg (h : ∀ j, j < w * g → P j = Q j) (x0 y0 : Int) (ch : Bool) (m : Int) : ∀ n, lkA w g P x0 y0 ch n m = lkA w g Q x0 y0 ch n m
  | 0 => rfl
  | n + 1 => by rw [lkA, lkA, lkA_cg h x0 y0 ch m n, lkR_cg h]
/-- the class counts all 1024 places, the model the board's -/
theorem ct_full (hw : w * g ≤ 1024) (hz : ∀ j, w * g ≤ j → P j = false) : fb_ct P 1024 = fb_ct P (w * g) := ct_ext hw hz
theorem egA_full (hw : w * g ≤ 1024) (hz : ∀ j, w * g ≤ j → P j = false) : egA w g P 1024 = egA w g P (w * g) := egA_skip hw (fun q h1 _ => hz q h1)
end CG
