/-! A CONTRACT OF THE REFERENCE'S THAT LEAVES SOME OF ITS CELLS UNKNOWN, framed; a state of the compactor's moved to rows that are alike -/
set_option maxRecDepth 100000
theorem zC_refE {D : zD} {A : Nat → Prop} {w m : zMp} {b : Nat} {F : zTF} {G : zTG} {y : MethodName} {cc : ByteArray} {nL : Nat} {ret : Option FieldType} {rm : Room} {As : List Value} {v : Value} {φ : zTF → zTG → Prop} (hsub : ∀ q, rA b q → A q) (hc : zC D y cc nL ret none rm (rA b) As (twI D (rA b) b F G) (zPd v (twE D (rA b) b φ)) zNo) : zC D y cc nL ret none rm A As (cI D A w (rM D b F G m)) (zPd v (fun H => ∃ F2 G2, φ F2 G2 ∧ cI D A w (rM D b F2 G2 m) H)) zNo := by
  intro l hl p e ha hch hck s m9 args below hf happ hP _
  obtain ⟨rfl, hI, hK⟩ := hP
  obtain ⟨n, o, k1, k2, k3, k4⟩ := hc l hl p e ha hch hck s m9 _ below hf happ ⟨rfl, hI.tw, hK.narrow hsub⟩ trivial
  refine ⟨n, o, k1, k2, k3, ?_⟩
  rcases k4 with ⟨⟨⟨v9, ho, hv, F2, G2, hφ, ht⟩, hF⟩, L, hfe, hL⟩ | ⟨q, -, E, ce, L, hx, -⟩
  · refine Or.inl ⟨⟨⟨v9, ho, hv, F2, G2, hφ, hI.ref hF.1 hF.2 ht (fun cell hcell => ?_)⟩, hF.1, fun q h1 h2 => hF.2 q h1 (fun hr => h2 (hsub q hr))⟩, L, hfe, fun q hq => hsub _ (hL q hq)⟩
    obtain ⟨-, -, hsame⟩ := hfe
    obtain ⟨c', x1, x2, -⟩ := hsame.2.2.2.2.2 b cell hcell
    exact ⟨c'.slots, x2 ▸ x1⟩
  · exact absurd hx.1 (fun q => q)

