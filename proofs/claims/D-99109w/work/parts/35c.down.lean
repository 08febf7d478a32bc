/-! DOWN: the descent as a whole, by fuel (by hand) -/
set_option maxRecDepth 100000
theorem descend {T n : Nat} {t : Nat → Int32} {L0 : Lq} {kd : Int32} : ∀ f : Nat, (CM T n t L0 kd mX3_one GS 0 0 0 0 0 f ∧ CM T n t L0 kd mX3_product GS 1 1 3 9 1 f ∧ CLo T n t L0 kd mX3_product 2 0 1 f ∧ CM T n t L0 kd mX3_sum GS 3 2 6 18 2 f ∧ CLo T n t L0 kd mX3_sum 4 1 2 f) ∧ CM T n t L0 kd mX3_ask GA 5 3 6 18 4 f ∧ (CM T n t L0 kd mX3_both GA 6 4 9 63 5 f ∧ CLb T n t L0 kd mX3_both true 7 3 5 f) ∧ CM T n t L0 kd mX3_either GA 8 5 12 108 6 f ∧ CLb T n t L0 kd mX3_either false 9 4 6 f
  | 0 => by
    refine ⟨⟨?_, ?_, ?_, ?_, ?_⟩, ?_, ⟨?_, ?_⟩, ?_, ?_⟩
    · exact fun s i o nu _ _ _ hz => absurd rfl (hz i)
    · exact fun s i o nu _ _ _ hz => absurd rfl (hz i)
    · exact fun s i o nu lo top c m i1 i2 F C l2 _ _ _ _ _ _ _ _ hz => absurd rfl (hz i)
    · exact fun s i o nu _ _ _ hz => absurd rfl (hz i)
    · exact fun s i o nu lo top c m i1 i2 F C l2 _ _ _ _ _ _ _ _ hz => absurd rfl (hz i)
    · exact fun s i o nu _ _ _ hz => absurd rfl (hz i)
    · exact fun s i o nu _ _ _ hz => absurd rfl (hz i)
    · exact fun s i o nu lo top Mo m ix Fs C _ _ _ _ _ _ _ _ hz => absurd rfl (hz i)
    · exact fun s i o nu _ _ _ hz => absurd rfl (hz i)
    · exact fun s i o nu lo top Mo m ix Fs C _ _ _ _ _ _ _ _ hz => absurd rfl (hz i)
  | f + 1 => by
    obtain ⟨⟨h0, h1, l2, h3, l4⟩, h5, ⟨h6, l7⟩, h8, l9⟩ := descend (T := T) (n := n) (t := t) (L0 := L0) (kd := kd) f
    exact ⟨⟨cm_one h0 h3, cm_product h0 l2, lo_product h0 l2, cm_sum h1 l4, lo_sum h1 l4⟩, cm_ask h3 h5, ⟨cm_both h5 l7, lo_both h5 l7⟩, cm_either h6 l9, lo_either h6 l9⟩
