noncomputable section

end
